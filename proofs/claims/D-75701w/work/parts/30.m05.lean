set_option maxRecDepth 100000
def mX5_rounds (h : Hp) (x1 : Int32) (x2 : Int32) : Option (Int32 × Hp) :=
cl1 (mX5_laysOpenings h) (fun h2 =>
cl1 (mX5_glideOf (0 : Int32) (0 : Int32)) (fun r3 =>
fx FU (fun _ _ => none) (fun k13 (x4_5 : Int32) (h6 : Hp) =>
if (63 : Int32) ≤ x4_5 then (
ck r3 63 (
if (h6 243 r3.toNatClampNeg) ≤ x1 then (
ck r3 63 (nm (u2 h6 244 r3.toNatClampNeg (0 : Int32)) (fun h7 =>
fx FU (fun _ _ _ _ => none) (fun k62 (x4_8 : Int32) (x5_9 : Int32) (x6_10 : Int32) (h11 : Hp) =>
if x5_9 = 0 then (
some (x4_8, h11)) else (
fx FU (fun _ _ _ _ => none) (fun k73 (x4_12 : Int32) (x5_13 : Int32) (x7_14 : Int32) (h15 : Hp) =>
if (63 : Int32) ≤ x7_14 then (
k62 x4_12 x5_13 (x6_10 + (1 : Int32)) h15) else (
fx FU (fun _ _ _ _ => none) (fun k83 (x4_16 : Int32) (x5_17 : Int32) (x8_18 : Int32) (h19 : Hp) =>
nm (
k73 x4_16 x5_17 (x7_14 + (1 : Int32)) h19) (fun k179 =>
if (63 : Int32) ≤ x8_18 then (
k179) else (
ck x7_14 63 (
if (h19 244 x7_14.toNatClampNeg) = x6_10 then (
ck x8_18 63 (
nm (fun (x4_20 : Int32) (x5_21 : Int32) (h22 : Hp) =>
k83 x4_20 x5_21 (x8_18 + (1 : Int32)) h22) (fun k173 =>
if (h19 244 x8_18.toNatClampNeg) = (-1 : Int32) then (
cl1 (mX5_isNext x7_14 x8_18) (fun r23 =>
if r23 = 0 then (
k173 x4_16 x5_17 h19) else (
ck x8_18 63 (
if x1 < (h19 243 x8_18.toNatClampNeg) then (
k173 x4_16 x5_17 h19) else (
ck x8_18 63 (
ck x7_14 63 (
if x2 < ((h19 243 x8_18.toNatClampNeg) - (h19 243 x7_14.toNatClampNeg)) then (
k173 x4_16 x5_17 h19) else (
ck x8_18 63 (nm (u2 h19 244 x8_18.toNatClampNeg (x6_10 + (1 : Int32))) (fun h25 =>
nm ((x4_16 + (1 : Int32))) (fun v26 =>
k173 v26 (1 : Int32) h25))))))))))) else (
k173 x4_16 x5_17 h19)))) else (
k179))))) x4_12 x5_13 (0 : Int32) h15)) x4_8 (0 : Int32) (0 : Int32) h11)) (1 : Int32) (1 : Int32) (0 : Int32) h7))) else (
some ((0 : Int32), h6)))) else (
ck x4_5 63 (nm (u2 h6 244 x4_5.toNatClampNeg (-1 : Int32)) (fun h27 =>
k13 (x4_5 + (1 : Int32)) h27)))) (0 : Int32) h2))
theorem cyX5_rounds : Callee yX5_rounds 2 := by unfold Callee; decide +kernel
set_option maxHeartbeats 4000000 in
theorem ctX5_rounds (l : Launch) (D : va_G) (ad : Nat → Nat) (dA : Nat → ClassId) (h : Hp) (x1 : Int32) (x2 : Int32) (r : Int32) (h' : Hp) (hm : mX5_rounds h x1 x2 = some (r, h')) : CT l yX5_rounds cX5_rounds 9 (some .int) D dA 6 136 0 0 (wM ad dA h) [.ref (ad 300), .int x1, .int x2] (some (.int r)) (wM ad dA h') := by
  refine ct_open (by decide) (Nat.le_of_ble_eq_true rfl) ?_
  intro G X hI hZ hV hR
  have hRet := hI rfl r rfl
  refine (show TM G (r, h') (mX5_rounds h x1 x2) (wM ad dA h) 0 0 0 [(0, .ref (ad 300)), (1, .int x1), (2, .int x2)] [] from ?_) hm
  clear hm hI hZ hV hR
  unfold mX5_rounds
  refine tm_aload_n X 0 dX5_rounds_0 rfl rfl ?_
  refine tm_cl1 (fun h2 e1 => ?_)
  refine tm_callVv (As := []) (rest := []) (q0 := 0) X (ctX5_laysOpenings l D ad dA h h2 e1) (lw_V q1585 q1587 qs85 q122 q1588) cyX5_laysOpenings rfl rfl rfl ⟨(Nat.le_of_ble_eq_true rfl), (Nat.le_of_ble_eq_true rfl)⟩ (Nat.le_of_ble_eq_true rfl) dX5_rounds_1 ⟨Nat.le_of_ble_eq_true rfl, Nat.le_of_ble_eq_true rfl⟩ rfl ?_
  refine tm_iconst X (0 : Int32) dX5_rounds_4 (by decide) ?_
  refine tm_iconst X (0 : Int32) dX5_rounds_5 (by decide) ?_
  refine tm_cl1 (fun r3 e4 => ?_)
  refine tm_callSi (As := [.int (0 : Int32), .int (0 : Int32)]) (rest := []) X (ctX5_glideOf l D dA (0 : Int32) (0 : Int32) r3 e4) (lw_S q1589 q1590 q122 q1591) cyX5_glideOf rfl ⟨(Nat.le_of_ble_eq_true rfl), (Nat.le_of_ble_eq_true rfl)⟩ (Nat.le_of_ble_eq_true rfl) dX5_rounds_6 ⟨Nat.le_of_ble_eq_true rfl, Nat.le_of_ble_eq_true rfl⟩ rfl ?_
  refine tm_istore_n X [(3, .int r3), (0, .ref (ad 300)), (1, .int x1), (2, .int x2)] dX5_rounds_9 rfl (Nat.le_of_ble_eq_true rfl) rfl ?_
  refine tm_iconst X (0 : Int32) dX5_rounds_10 (by decide) ?_
  refine tm_istore X [(4, .int (0 : Int32)), (3, .int r3), (0, .ref (ad 300)), (1, .int x1), (2, .int x2)] dX5_rounds_11 (Nat.le_of_ble_eq_true rfl) rfl ?_
  refine tm_lv X [2, 3, 4, 1, 0] rfl ?_
  refine fx_P (fun (k : Int32 → Hp → Option (Int32 × Hp)) => ∀ (x4_5 : Int32) (h6 : Hp), TM G (r, h') (k x4_5 h6) (wM ad dA h6) 0 0 13 [(0, .ref (ad 300)), (1, .int x1), (2, .int x2), (3, .int r3), (4, .int x4_5)] []) (fun _ _ => tm_none) (fun k13 hk13 x4_5 h6 => ?_) FU (0 : Int32) h2
  refine tm_iload X 4 dX5_rounds_13 rfl ?_
  refine tm_bipush X (63 : Int32) dX5_rounds_15 (by decide) ?_
  refine tm_ic_ge X 34 dX5_rounds_17 rfl ?_ ?_
  · skip
    refine tm_aload_n X 0 dX5_rounds_34 rfl rfl ?_
    refine tm_getR X (frM_300_43 ad dA h6) in_X5 rfl (Nat.le_of_ble_eq_true rfl) q1230 rfl dX5_rounds_35 ?_
    refine tm_iload_n X 3 dX5_rounds_38 rfl rfl ?_
    refine tm_iaload X (arM_243 ad dA) dX5_rounds_39 ?_
    refine tm_iload_n X 1 dX5_rounds_40 rfl rfl ?_
    refine tm_ic_le X 46 dX5_rounds_41 rfl ?_ ?_
    · skip
      refine tm_aload_n X 0 dX5_rounds_46 rfl rfl ?_
      refine tm_getR X (frM_300_44 ad dA h6) in_X5 rfl (Nat.le_of_ble_eq_true rfl) q1231 rfl dX5_rounds_47 ?_
      refine tm_iload_n X 3 dX5_rounds_50 rfl rfl ?_
      refine tm_iconst X (0 : Int32) dX5_rounds_51 (by decide) ?_
      refine tm_iastore X (arM_244 ad dA) dX5_rounds_52 (fun h7 => ?_)
      refine tm_iconst X (1 : Int32) dX5_rounds_53 (by decide) ?_
      refine tm_istore X [(4, .int (1 : Int32)), (0, .ref (ad 300)), (1, .int x1), (2, .int x2), (3, .int r3)] dX5_rounds_54 (Nat.le_of_ble_eq_true rfl) rfl ?_
      refine tm_iconst X (1 : Int32) dX5_rounds_56 (by decide) ?_
      refine tm_istore X [(5, .int (1 : Int32)), (4, .int (1 : Int32)), (0, .ref (ad 300)), (1, .int x1), (2, .int x2), (3, .int r3)] dX5_rounds_57 (Nat.le_of_ble_eq_true rfl) rfl ?_
      refine tm_iconst X (0 : Int32) dX5_rounds_59 (by decide) ?_
      refine tm_istore X [(6, .int (0 : Int32)), (5, .int (1 : Int32)), (4, .int (1 : Int32)), (0, .ref (ad 300)), (1, .int x1), (2, .int x2), (3, .int r3)] dX5_rounds_60 (Nat.le_of_ble_eq_true rfl) rfl ?_
      refine tm_lv X [3, 4, 5, 2, 1, 0] rfl ?_
      refine fx_P (fun (k : Int32 → Int32 → Int32 → Hp → Option (Int32 × Hp)) => ∀ (x4_8 : Int32) (x5_9 : Int32) (x6_10 : Int32) (h11 : Hp), TM G (r, h') (k x4_8 x5_9 x6_10 h11) (wM ad dA h11) 0 0 62 [(0, .ref (ad 300)), (1, .int x1), (2, .int x2), (4, .int x4_8), (5, .int x5_9), (6, .int x6_10)] []) (fun _ _ _ _ => tm_none) (fun k62 hk62 x4_8 x5_9 x6_10 h11 => ?_) FU (1 : Int32) (1 : Int32) (0 : Int32) h7
      refine tm_iload X 4 dX5_rounds_62 rfl ?_
      refine tm_if_eq X 191 dX5_rounds_64 rfl ?_ ?_
      · skip
        refine tm_iload X 3 dX5_rounds_191 rfl ?_
        exact tm_retIH (wf := wM ad dA) hRet dX5_rounds_193
      · skip
        refine tm_iconst X (0 : Int32) dX5_rounds_67 (by decide) ?_
        refine tm_istore X [(5, .int (0 : Int32)), (0, .ref (ad 300)), (1, .int x1), (2, .int x2), (4, .int x4_8), (6, .int x6_10)] dX5_rounds_68 (Nat.le_of_ble_eq_true rfl) rfl ?_
        refine tm_iconst X (0 : Int32) dX5_rounds_70 (by decide) ?_
        refine tm_istore X [(7, .int (0 : Int32)), (5, .int (0 : Int32)), (0, .ref (ad 300)), (1, .int x1), (2, .int x2), (4, .int x4_8), (6, .int x6_10)] dX5_rounds_71 (Nat.le_of_ble_eq_true rfl) rfl ?_
        refine tm_lv X [2, 3, 4, 5, 1, 6, 0] rfl ?_
        refine fx_P (fun (k : Int32 → Int32 → Int32 → Hp → Option (Int32 × Hp)) => ∀ (x4_12 : Int32) (x5_13 : Int32) (x7_14 : Int32) (h15 : Hp), TM G (r, h') (k x4_12 x5_13 x7_14 h15) (wM ad dA h15) 0 0 73 [(0, .ref (ad 300)), (1, .int x1), (2, .int x2), (4, .int x4_12), (5, .int x5_13), (6, .int x6_10), (7, .int x7_14)] []) (fun _ _ _ _ => tm_none) (fun k73 hk73 x4_12 x5_13 x7_14 h15 => ?_) FU x4_8 (0 : Int32) (0 : Int32) h11
        refine tm_iload X 6 dX5_rounds_73 rfl ?_
        refine tm_bipush X (63 : Int32) dX5_rounds_75 (by decide) ?_
        refine tm_ic_ge X 185 dX5_rounds_77 rfl ?_ ?_
        · skip
          refine tm_iinc (v := (1 : Int32)) X 5 [(6, .int (x6_10 + (1 : Int32))), (0, .ref (ad 300)), (1, .int x1), (2, .int x2), (4, .int x4_12), (5, .int x5_13), (7, .int x7_14)] dX5_rounds_185 rfl (by decide) (Nat.le_of_ble_eq_true rfl) rfl ?_
          refine tm_goto X 62 dX5_rounds_188 rfl ?_
          refine tm_lv X [1, 2, 3, 4, 5, 0] rfl ?_
          exact hk62 x4_12 x5_13 (x6_10 + (1 : Int32)) h15
        · skip
          refine tm_iconst X (0 : Int32) dX5_rounds_80 (by decide) ?_
          refine tm_istore X [(8, .int (0 : Int32)), (0, .ref (ad 300)), (1, .int x1), (2, .int x2), (4, .int x4_12), (5, .int x5_13), (6, .int x6_10), (7, .int x7_14)] dX5_rounds_81 (Nat.le_of_ble_eq_true rfl) rfl ?_
          refine tm_lv X [1, 2, 3, 4, 5, 6, 7, 0] rfl ?_
          refine fx_P (fun (k : Int32 → Int32 → Int32 → Hp → Option (Int32 × Hp)) => ∀ (x4_16 : Int32) (x5_17 : Int32) (x8_18 : Int32) (h19 : Hp), TM G (r, h') (k x4_16 x5_17 x8_18 h19) (wM ad dA h19) 0 0 83 [(0, .ref (ad 300)), (1, .int x1), (2, .int x2), (4, .int x4_16), (5, .int x5_17), (6, .int x6_10), (7, .int x7_14), (8, .int x8_18)] []) (fun _ _ _ _ => tm_none) (fun k83 hk83 x4_16 x5_17 x8_18 h19 => ?_) FU x4_12 x5_13 (0 : Int32) h15
          refine tm_iload X 7 dX5_rounds_83 rfl ?_
          refine tm_bipush X (63 : Int32) dX5_rounds_85 (by decide) ?_
          refine tm_let (fun k => TM G (r, h') k (wM ad dA h19) 0 0 179 [(0, .ref (ad 300)), (1, .int x1), (2, .int x2), (4, .int x4_16), (5, .int x5_17), (6, .int x6_10), (7, .int x7_14)] []) ?_ (fun k179 hk179 => ?_)
          · skip
            refine tm_iinc (v := (1 : Int32)) X 6 [(7, .int (x7_14 + (1 : Int32))), (0, .ref (ad 300)), (1, .int x1), (2, .int x2), (4, .int x4_16), (5, .int x5_17), (6, .int x6_10)] dX5_rounds_179 rfl (by decide) (Nat.le_of_ble_eq_true rfl) rfl ?_
            refine tm_goto X 73 dX5_rounds_182 rfl ?_
            refine tm_lv X [1, 2, 3, 4, 5, 6, 0] rfl ?_
            exact hk73 x4_16 x5_17 (x7_14 + (1 : Int32)) h19
          · skip
            refine tm_ic_ge X 179 dX5_rounds_87 rfl ?_ ?_
            · skip
              refine tm_lv X [0, 1, 2, 3, 4, 5, 6] rfl ?_
              exact hk179
            · skip
              refine tm_aload_n X 0 dX5_rounds_90 rfl rfl ?_
              refine tm_getR X (frM_300_44 ad dA h19) in_X5 rfl (Nat.le_of_ble_eq_true rfl) q1231 rfl dX5_rounds_91 ?_
              refine tm_iload X 6 dX5_rounds_94 rfl ?_
              refine tm_iaload X (arM_244 ad dA) dX5_rounds_96 ?_
              refine tm_iload X 5 dX5_rounds_97 rfl ?_
              refine tm_ic_ne X 179 dX5_rounds_99 rfl ?_ ?_
              · skip
                refine tm_lv X [0, 1, 2, 3, 4, 5, 6] rfl ?_
                exact hk179
              · skip
                refine tm_aload_n X 0 dX5_rounds_102 rfl rfl ?_
                refine tm_getR X (frM_300_44 ad dA h19) in_X5 rfl (Nat.le_of_ble_eq_true rfl) q1231 rfl dX5_rounds_103 ?_
                refine tm_iload X 7 dX5_rounds_106 rfl ?_
                refine tm_iaload X (arM_244 ad dA) dX5_rounds_108 ?_
                refine tm_iconst X (-1 : Int32) dX5_rounds_109 (by decide) ?_
                refine tm_let (fun k => ∀ (x4_20 : Int32) (x5_21 : Int32) (h22 : Hp), TM G (r, h') (k x4_20 x5_21 h22) (wM ad dA h22) 0 0 173 [(0, .ref (ad 300)), (1, .int x1), (2, .int x2), (4, .int x4_20), (5, .int x5_21), (6, .int x6_10), (7, .int x7_14), (8, .int x8_18)] []) ?_ (fun k173 hk173 => ?_)
                · intro x4_20 x5_21 h22
                  refine tm_iinc (v := (1 : Int32)) X 7 [(8, .int (x8_18 + (1 : Int32))), (0, .ref (ad 300)), (1, .int x1), (2, .int x2), (4, .int x4_20), (5, .int x5_21), (6, .int x6_10), (7, .int x7_14)] dX5_rounds_173 rfl (by decide) (Nat.le_of_ble_eq_true rfl) rfl ?_
                  refine tm_goto X 83 dX5_rounds_176 rfl ?_
                  refine tm_lv X [1, 2, 3, 4, 5, 6, 7, 0] rfl ?_
                  exact hk83 x4_20 x5_21 (x8_18 + (1 : Int32)) h22
                · skip
                  refine tm_ic_ne X 173 dX5_rounds_110 rfl ?_ ?_
                  · skip
                    exact hk173 x4_16 x5_17 h19
                  · skip
                    refine tm_iload X 6 dX5_rounds_113 rfl ?_
                    refine tm_iload X 7 dX5_rounds_115 rfl ?_
                    refine tm_cl1 (fun r23 e24 => ?_)
                    refine tm_callSi (As := [.int x7_14, .int x8_18]) (rest := []) X (ctX5_isNext l D dA x7_14 x8_18 r23 e24) (lw_S q1592 q1593 q122 q1594) cyX5_isNext rfl ⟨(Nat.le_of_ble_eq_true rfl), (Nat.le_of_ble_eq_true rfl)⟩ (Nat.le_of_ble_eq_true rfl) dX5_rounds_117 ⟨Nat.le_of_ble_eq_true rfl, Nat.le_of_ble_eq_true rfl⟩ rfl ?_
                    refine tm_if_eq X 173 dX5_rounds_120 rfl ?_ ?_
                    · skip
                      exact hk173 x4_16 x5_17 h19
                    · skip
                      refine tm_aload_n X 0 dX5_rounds_123 rfl rfl ?_
                      refine tm_getR X (frM_300_43 ad dA h19) in_X5 rfl (Nat.le_of_ble_eq_true rfl) q1230 rfl dX5_rounds_124 ?_
                      refine tm_iload X 7 dX5_rounds_127 rfl ?_
                      refine tm_iaload X (arM_243 ad dA) dX5_rounds_129 ?_
                      refine tm_iload_n X 1 dX5_rounds_130 rfl rfl ?_
                      refine tm_ic_gt X 173 dX5_rounds_131 rfl ?_ ?_
                      · skip
                        exact hk173 x4_16 x5_17 h19
                      · skip
                        refine tm_aload_n X 0 dX5_rounds_134 rfl rfl ?_
                        refine tm_getR X (frM_300_43 ad dA h19) in_X5 rfl (Nat.le_of_ble_eq_true rfl) q1230 rfl dX5_rounds_135 ?_
                        refine tm_iload X 7 dX5_rounds_138 rfl ?_
                        refine tm_iaload X (arM_243 ad dA) dX5_rounds_140 ?_
                        refine tm_aload_n X 0 dX5_rounds_141 rfl rfl ?_
                        refine tm_getR X (frM_300_43 ad dA h19) in_X5 rfl (Nat.le_of_ble_eq_true rfl) q1230 rfl dX5_rounds_142 ?_
                        refine tm_iload X 6 dX5_rounds_145 rfl ?_
                        refine tm_iaload X (arM_243 ad dA) dX5_rounds_147 ?_
                        refine tm_isub X dX5_rounds_148 ?_
                        refine tm_iload_n X 2 dX5_rounds_149 rfl rfl ?_
                        refine tm_ic_gt X 173 dX5_rounds_150 rfl ?_ ?_
                        · skip
                          exact hk173 x4_16 x5_17 h19
                        · skip
                          refine tm_aload_n X 0 dX5_rounds_153 rfl rfl ?_
                          refine tm_getR X (frM_300_44 ad dA h19) in_X5 rfl (Nat.le_of_ble_eq_true rfl) q1231 rfl dX5_rounds_154 ?_
                          refine tm_iload X 7 dX5_rounds_157 rfl ?_
                          refine tm_iload X 5 dX5_rounds_159 rfl ?_
                          refine tm_iconst X (1 : Int32) dX5_rounds_161 (by decide) ?_
                          refine tm_iadd X dX5_rounds_162 ?_
                          refine tm_iastore X (arM_244 ad dA) dX5_rounds_163 (fun h25 => ?_)
                          refine tm_iload X 3 dX5_rounds_164 rfl ?_
                          refine tm_iconst X (1 : Int32) dX5_rounds_166 (by decide) ?_
                          refine tm_iadd X dX5_rounds_167 ?_
                          refine tm_nmI (fun v26 => ?_)
                          refine tm_istore X [(4, .int v26), (0, .ref (ad 300)), (1, .int x1), (2, .int x2), (5, .int x5_17), (6, .int x6_10), (7, .int x7_14), (8, .int x8_18)] dX5_rounds_168 (Nat.le_of_ble_eq_true rfl) rfl ?_
                          refine tm_iconst X (1 : Int32) dX5_rounds_170 (by decide) ?_
                          refine tm_istore X [(5, .int (1 : Int32)), (4, .int v26), (0, .ref (ad 300)), (1, .int x1), (2, .int x2), (6, .int x6_10), (7, .int x7_14), (8, .int x8_18)] dX5_rounds_171 (Nat.le_of_ble_eq_true rfl) rfl ?_
                          refine tm_lv X [2, 3, 4, 1, 0, 5, 6, 7] rfl ?_
                          exact hk173 v26 (1 : Int32) h25
    · skip
      refine tm_iconst X (0 : Int32) dX5_rounds_44 (by decide) ?_
      exact tm_retIH (wf := wM ad dA) hRet dX5_rounds_45
  · skip
    refine tm_aload_n X 0 dX5_rounds_20 rfl rfl ?_
    refine tm_getR X (frM_300_44 ad dA h6) in_X5 rfl (Nat.le_of_ble_eq_true rfl) q1231 rfl dX5_rounds_21 ?_
    refine tm_iload X 4 dX5_rounds_24 rfl ?_
    refine tm_iconst X (-1 : Int32) dX5_rounds_26 (by decide) ?_
    refine tm_iastore X (arM_244 ad dA) dX5_rounds_27 (fun h27 => ?_)
    refine tm_iinc (v := (1 : Int32)) X 4 [(4, .int (x4_5 + (1 : Int32))), (0, .ref (ad 300)), (1, .int x1), (2, .int x2), (3, .int r3)] dX5_rounds_28 rfl (by decide) (Nat.le_of_ble_eq_true rfl) rfl ?_
    refine tm_goto X 13 dX5_rounds_31 rfl ?_
    refine tm_lv X [1, 2, 3, 4, 0] rfl ?_
    exact hk13 (x4_5 + (1 : Int32)) h27
def mX5_free (h : Hp) (x1 : Int32) : Option (Int32 × Hp) :=
cl1 (mX5_isSum x1) (fun r1 =>
nm (fun (s3 : Int32) (h4 : Hp) =>
some (s3, h4)) (fun k18 =>
if r1 = 0 then (
k18 (-1 : Int32) h) else (
cl2 (mX5_rounds h (50 : Int32) x1) (fun r6 h7 =>
k18 r6 h7))))
theorem cyX5_free : Callee yX5_free 1 := by unfold Callee; decide +kernel
set_option maxHeartbeats 4000000 in
theorem ctX5_free (l : Launch) (D : va_G) (ad : Nat → Nat) (dA : Nat → ClassId) (h : Hp) (x1 : Int32) (r : Int32) (h' : Hp) (hm : mX5_free h x1 = some (r, h')) : CT l yX5_free cX5_free 2 (some .int) D dA 7 164 0 0 (wM ad dA h) [.ref (ad 300), .int x1] (some (.int r)) (wM ad dA h') := by
  refine ct_open (by decide) (Nat.le_of_ble_eq_true rfl) ?_
  intro G X hI hZ hV hR
  have hRet := hI rfl r rfl
  refine (show TM G (r, h') (mX5_free h x1) (wM ad dA h) 0 0 0 [(0, .ref (ad 300)), (1, .int x1)] [] from ?_) hm
  clear hm hI hZ hV hR
  unfold mX5_free
  refine tm_iload_n X 1 dX5_free_0 rfl rfl ?_
  refine tm_cl1 (fun r1 e2 => ?_)
  refine tm_callSi (As := [.int x1]) (rest := []) X (ctX5_isSum l D dA x1 r1 e2) (lw_S q1517 q1518 q122 q1519) cyX5_isSum rfl ⟨(Nat.le_of_ble_eq_true rfl), (Nat.le_of_ble_eq_true rfl)⟩ (Nat.le_of_ble_eq_true rfl) dX5_free_1 ⟨Nat.le_of_ble_eq_true rfl, Nat.le_of_ble_eq_true rfl⟩ rfl ?_
  refine tm_let (fun k => ∀ (s3 : Int32) (h4 : Hp), TM G (r, h') (k s3 h4) (wM ad dA h4) 0 0 18 [] [.int s3]) ?_ (fun k18 hk18 => ?_)
  · intro s3 h4
    exact tm_retIH (wf := wM ad dA) hRet dX5_free_18
  · skip
    refine tm_if_eq X 17 dX5_free_4 rfl ?_ ?_
    · skip
      refine tm_iconst X (-1 : Int32) dX5_free_17 (by decide) ?_
      refine tm_lv X [] rfl ?_
      exact hk18 (-1 : Int32) h
    · skip
      refine tm_aload_n X 0 dX5_free_7 rfl rfl ?_
      refine tm_bipush X (50 : Int32) dX5_free_8 (by decide) ?_
      refine tm_iload_n X 1 dX5_free_10 rfl rfl ?_
      refine tm_cl2 (fun r6 h7 e5 => ?_)
      refine tm_callVi (As := [.int (50 : Int32), .int x1]) (rest := []) (q0 := 0) X (ctX5_rounds l D ad dA h (50 : Int32) x1 r6 h7 e5) (lw_V q1581 q1583 qs84 q122 q1584) cyX5_rounds rfl rfl rfl ⟨(Nat.le_of_ble_eq_true rfl), (Nat.le_of_ble_eq_true rfl)⟩ (Nat.le_of_ble_eq_true rfl) dX5_free_11 ⟨Nat.le_of_ble_eq_true rfl, Nat.le_of_ble_eq_true rfl⟩ rfl ?_
      refine tm_goto X 18 dX5_free_14 rfl ?_
      refine tm_lv X [] rfl ?_
      exact hk18 r6 h7
def mX5_freest (h : Hp) (x1 : Int32) : Option (Int32 × Hp) :=
cl1 (mX5_laysOpenings h) (fun h2 =>
ck x1 63 (
cl1 (mX5_glideOf (0 : Int32) (0 : Int32)) (fun r3 =>
ck r3 63 (
cl1 (mX5_max (h2 243 x1.toNatClampNeg) (h2 243 r3.toNatClampNeg)) (fun r5 =>
cl2 (mX5_rounds h2 r5 (50 : Int32)) (fun r8 h9 =>
fx FU (fun _ _ => none) (fun k32 (x2_10 : Int32) (h11 : Hp) =>
ck x1 63 (
if (h11 244 x1.toNatClampNeg) = (-1 : Int32) then (
nm ((x2_10 + (1 : Int32))) (fun v12 =>
cl2 (mX5_rounds h11 v12 (50 : Int32)) (fun r14 h15 =>
k32 v12 h15))) else (
some (x2_10, h11)))) r5 h9))))))
theorem cyX5_freest : Callee yX5_freest 1 := by unfold Callee; decide +kernel
set_option maxHeartbeats 4000000 in
theorem ctX5_freest (l : Launch) (D : va_G) (ad : Nat → Nat) (dA : Nat → ClassId) (h : Hp) (x1 : Int32) (r : Int32) (h' : Hp) (hm : mX5_freest h x1 = some (r, h')) : CT l yX5_freest cX5_freest 3 (some .int) D dA 7 164 0 0 (wM ad dA h) [.ref (ad 300), .int x1] (some (.int r)) (wM ad dA h') := by
  refine ct_open (by decide) (Nat.le_of_ble_eq_true rfl) ?_
  intro G X hI hZ hV hR
  have hRet := hI rfl r rfl
  refine (show TM G (r, h') (mX5_freest h x1) (wM ad dA h) 0 0 0 [(0, .ref (ad 300)), (1, .int x1)] [] from ?_) hm
  clear hm hI hZ hV hR
  unfold mX5_freest
  refine tm_aload_n X 0 dX5_freest_0 rfl rfl ?_
  refine tm_cl1 (fun h2 e1 => ?_)
  refine tm_callVv (As := []) (rest := []) (q0 := 0) X (ctX5_laysOpenings l D ad dA h h2 e1) (lw_V q1585 q1587 qs85 q122 q1588) cyX5_laysOpenings rfl rfl rfl ⟨(Nat.le_of_ble_eq_true rfl), (Nat.le_of_ble_eq_true rfl)⟩ (Nat.le_of_ble_eq_true rfl) dX5_freest_1 ⟨Nat.le_of_ble_eq_true rfl, Nat.le_of_ble_eq_true rfl⟩ rfl ?_
  refine tm_aload_n X 0 dX5_freest_4 rfl rfl ?_
  refine tm_getR X (frM_300_43 ad dA h2) in_X5 rfl (Nat.le_of_ble_eq_true rfl) q1230 rfl dX5_freest_5 ?_
  refine tm_iload_n X 1 dX5_freest_8 rfl rfl ?_
  refine tm_iaload X (arM_243 ad dA) dX5_freest_9 ?_
  refine tm_aload_n X 0 dX5_freest_10 rfl rfl ?_
  refine tm_getR X (frM_300_43 ad dA h2) in_X5 rfl (Nat.le_of_ble_eq_true rfl) q1230 rfl dX5_freest_11 ?_
  refine tm_iconst X (0 : Int32) dX5_freest_14 (by decide) ?_
  refine tm_iconst X (0 : Int32) dX5_freest_15 (by decide) ?_
  refine tm_cl1 (fun r3 e4 => ?_)
  refine tm_callSi (As := [.int (0 : Int32), .int (0 : Int32)]) (rest := [.ref (ad 243), .int (h2 243 x1.toNatClampNeg)]) X (ctX5_glideOf l D dA (0 : Int32) (0 : Int32) r3 e4) (lw_S q1589 q1590 q122 q1591) cyX5_glideOf rfl ⟨(Nat.le_of_ble_eq_true rfl), (Nat.le_of_ble_eq_true rfl)⟩ (Nat.le_of_ble_eq_true rfl) dX5_freest_16 ⟨Nat.le_of_ble_eq_true rfl, Nat.le_of_ble_eq_true rfl⟩ rfl ?_
  refine tm_iaload X (arM_243 ad dA) dX5_freest_19 ?_
  refine tm_cl1 (fun r5 e6 => ?_)
  refine tm_callSi (As := [.int (h2 243 x1.toNatClampNeg), .int (h2 243 r3.toNatClampNeg)]) (rest := []) X (ctX5_max l D dA (h2 243 x1.toNatClampNeg) (h2 243 r3.toNatClampNeg) r5 e6) (lw_S q1539 q1540 q122 q1541) cyX5_max rfl ⟨(Nat.le_of_ble_eq_true rfl), (Nat.le_of_ble_eq_true rfl)⟩ (Nat.le_of_ble_eq_true rfl) dX5_freest_20 ⟨Nat.le_of_ble_eq_true rfl, Nat.le_of_ble_eq_true rfl⟩ rfl ?_
  refine tm_istore_n X [(2, .int r5), (0, .ref (ad 300)), (1, .int x1)] dX5_freest_23 rfl (Nat.le_of_ble_eq_true rfl) rfl ?_
  refine tm_aload_n X 1 dX5_freest_24 rfl rfl ?_
  refine tm_iload_n X 0 dX5_freest_25 rfl rfl ?_
  refine tm_bipush X (50 : Int32) dX5_freest_26 (by decide) ?_
  refine tm_cl2 (fun r8 h9 e7 => ?_)
  refine tm_callVi (As := [.int r5, .int (50 : Int32)]) (rest := []) (q0 := 0) X (ctX5_rounds l D ad dA h2 r5 (50 : Int32) r8 h9 e7) (lw_V q1581 q1583 qs84 q122 q1584) cyX5_rounds rfl rfl rfl ⟨(Nat.le_of_ble_eq_true rfl), (Nat.le_of_ble_eq_true rfl)⟩ (Nat.le_of_ble_eq_true rfl) dX5_freest_28 ⟨Nat.le_of_ble_eq_true rfl, Nat.le_of_ble_eq_true rfl⟩ rfl ?_
  refine tm_pop X dX5_freest_31 rfl ?_
  refine tm_lv X [1, 2, 0] rfl ?_
  refine fx_P (fun (k : Int32 → Hp → Option (Int32 × Hp)) => ∀ (x2_10 : Int32) (h11 : Hp), TM G (r, h') (k x2_10 h11) (wM ad dA h11) 0 0 32 [(0, .ref (ad 300)), (1, .int x1), (2, .int x2_10)] []) (fun _ _ => tm_none) (fun k32 hk32 x2_10 h11 => ?_) FU r5 h9
  refine tm_aload_n X 0 dX5_freest_32 rfl rfl ?_
  refine tm_getR X (frM_300_44 ad dA h11) in_X5 rfl (Nat.le_of_ble_eq_true rfl) q1231 rfl dX5_freest_33 ?_
  refine tm_iload_n X 1 dX5_freest_36 rfl rfl ?_
  refine tm_iaload X (arM_244 ad dA) dX5_freest_37 ?_
  refine tm_iconst X (-1 : Int32) dX5_freest_38 (by decide) ?_
  refine tm_ic_ne X 57 dX5_freest_39 rfl ?_ ?_
  · skip
    refine tm_iload_n X 2 dX5_freest_57 rfl rfl ?_
    exact tm_retIH (wf := wM ad dA) hRet dX5_freest_58
  · skip
    refine tm_iload_n X 2 dX5_freest_42 rfl rfl ?_
    refine tm_iconst X (1 : Int32) dX5_freest_43 (by decide) ?_
    refine tm_iadd X dX5_freest_44 ?_
    refine tm_nmI (fun v12 => ?_)
    refine tm_istore_n X [(2, .int v12), (0, .ref (ad 300)), (1, .int x1)] dX5_freest_45 rfl (Nat.le_of_ble_eq_true rfl) rfl ?_
    refine tm_aload_n X 1 dX5_freest_46 rfl rfl ?_
    refine tm_iload_n X 0 dX5_freest_47 rfl rfl ?_
    refine tm_bipush X (50 : Int32) dX5_freest_48 (by decide) ?_
    refine tm_cl2 (fun r14 h15 e13 => ?_)
    refine tm_callVi (As := [.int v12, .int (50 : Int32)]) (rest := []) (q0 := 0) X (ctX5_rounds l D ad dA h11 v12 (50 : Int32) r14 h15 e13) (lw_V q1581 q1583 qs84 q122 q1584) cyX5_rounds rfl rfl rfl ⟨(Nat.le_of_ble_eq_true rfl), (Nat.le_of_ble_eq_true rfl)⟩ (Nat.le_of_ble_eq_true rfl) dX5_freest_50 ⟨Nat.le_of_ble_eq_true rfl, Nat.le_of_ble_eq_true rfl⟩ rfl ?_
    refine tm_pop X dX5_freest_53 rfl ?_
    refine tm_goto X 32 dX5_freest_54 rfl ?_
    refine tm_lv X [1, 2, 0] rfl ?_
    exact hk32 v12 h15
def mX5_wayTo (h : Hp) (x1 : Int32) (x2 : Int32) (x3 : Int32) (x4 : Int32) : Option (Int32 × Hp) :=
cl1 (mX5_isGlide x1 x2) (fun r1 =>
nm (
some ((-1 : Int32), h)) (fun k25 =>
if r1 = 0 then (
k25) else (
cl1 (mX5_isSum x3) (fun r3 =>
if r3 = 0 then (
k25) else (
cl1 (mX5_in x4 (0 : Int32) (1 : Int32)) (fun r5 =>
if r5 = 0 then (
k25) else (
cl1 (mX5_glideOf x1 x2) (fun r7 =>
if x4 = 0 then (
cl2 (mX5_freest h r7) (fun r14 h15 =>
some (r14, h15))) else (
cl2 (mX5_rounds h (50 : Int32) x3) (fun r10 h11 =>
ck r7 63 (
nm (fun (s12 : Int32) =>
some (s12, h11)) (fun k77 =>
if (h11 244 r7.toNatClampNeg) = (-1 : Int32) then (
k77 (-2 : Int32)) else (
ck r7 63 (
k77 (h11 244 r7.toNatClampNeg)))))))))))))))
theorem cyX5_wayTo : Callee yX5_wayTo 4 := by unfold Callee; decide +kernel
set_option maxHeartbeats 4000000 in
theorem ctX5_wayTo (l : Launch) (D : va_G) (ad : Nat → Nat) (dA : Nat → ClassId) (h : Hp) (x1 : Int32) (x2 : Int32) (x3 : Int32) (x4 : Int32) (r : Int32) (h' : Hp) (hm : mX5_wayTo h x1 x2 x3 x4 = some (r, h')) : CT l yX5_wayTo cX5_wayTo 6 (some .int) D dA 8 186 0 0 (wM ad dA h) [.ref (ad 300), .int x1, .int x2, .int x3, .int x4] (some (.int r)) (wM ad dA h') := by
  refine ct_open (by decide) (Nat.le_of_ble_eq_true rfl) ?_
  intro G X hI hZ hV hR
  have hRet := hI rfl r rfl
  refine (show TM G (r, h') (mX5_wayTo h x1 x2 x3 x4) (wM ad dA h) 0 0 0 [(0, .ref (ad 300)), (1, .int x1), (2, .int x2), (3, .int x3), (4, .int x4)] [] from ?_) hm
  clear hm hI hZ hV hR
  unfold mX5_wayTo
  refine tm_iload_n X 1 dX5_wayTo_0 rfl rfl ?_
  refine tm_iload_n X 2 dX5_wayTo_1 rfl rfl ?_
  refine tm_cl1 (fun r1 e2 => ?_)
  refine tm_callSi (As := [.int x1, .int x2]) (rest := []) X (ctX5_isGlide l D dA x1 x2 r1 e2) (lw_S q1514 q1515 q122 q1516) cyX5_isGlide rfl ⟨(Nat.le_of_ble_eq_true rfl), (Nat.le_of_ble_eq_true rfl)⟩ (Nat.le_of_ble_eq_true rfl) dX5_wayTo_2 ⟨Nat.le_of_ble_eq_true rfl, Nat.le_of_ble_eq_true rfl⟩ rfl ?_
  refine tm_let (fun k => TM G (r, h') k (wM ad dA h) 0 0 25 [] []) ?_ (fun k25 hk25 => ?_)
  · skip
    refine tm_iconst X (-1 : Int32) dX5_wayTo_25 (by decide) ?_
    exact tm_retIH (wf := wM ad dA) hRet dX5_wayTo_26
  · skip
    refine tm_if_eq X 25 dX5_wayTo_5 rfl ?_ ?_
    · skip
      refine tm_lv X [] rfl ?_
      exact hk25
    · skip
      refine tm_iload_n X 3 dX5_wayTo_8 rfl rfl ?_
      refine tm_cl1 (fun r3 e4 => ?_)
      refine tm_callSi (As := [.int x3]) (rest := []) X (ctX5_isSum l D dA x3 r3 e4) (lw_S q1517 q1518 q122 q1519) cyX5_isSum rfl ⟨(Nat.le_of_ble_eq_true rfl), (Nat.le_of_ble_eq_true rfl)⟩ (Nat.le_of_ble_eq_true rfl) dX5_wayTo_9 ⟨Nat.le_of_ble_eq_true rfl, Nat.le_of_ble_eq_true rfl⟩ rfl ?_
      refine tm_if_eq X 25 dX5_wayTo_12 rfl ?_ ?_
      · skip
        refine tm_lv X [] rfl ?_
        exact hk25
      · skip
        refine tm_iload X 4 dX5_wayTo_15 rfl ?_
        refine tm_iconst X (0 : Int32) dX5_wayTo_17 (by decide) ?_
        refine tm_iconst X (1 : Int32) dX5_wayTo_18 (by decide) ?_
        refine tm_cl1 (fun r5 e6 => ?_)
        refine tm_callSi (As := [.int x4, .int (0 : Int32), .int (1 : Int32)]) (rest := []) X (ctX5_in l D dA x4 (0 : Int32) (1 : Int32) r5 e6) (lw_S q1366 q1367 q122 q1368) cyX5_in rfl ⟨(Nat.le_of_ble_eq_true rfl), (Nat.le_of_ble_eq_true rfl)⟩ (Nat.le_of_ble_eq_true rfl) dX5_wayTo_19 ⟨Nat.le_of_ble_eq_true rfl, Nat.le_of_ble_eq_true rfl⟩ rfl ?_
        refine tm_if_ne X 27 dX5_wayTo_22 rfl ?_ ?_
        · skip
          refine tm_iload_n X 1 dX5_wayTo_27 rfl rfl ?_
          refine tm_iload_n X 2 dX5_wayTo_28 rfl rfl ?_
          refine tm_cl1 (fun r7 e8 => ?_)
          refine tm_callSi (As := [.int x1, .int x2]) (rest := []) X (ctX5_glideOf l D dA x1 x2 r7 e8) (lw_S q1589 q1590 q122 q1591) cyX5_glideOf rfl ⟨(Nat.le_of_ble_eq_true rfl), (Nat.le_of_ble_eq_true rfl)⟩ (Nat.le_of_ble_eq_true rfl) dX5_wayTo_29 ⟨Nat.le_of_ble_eq_true rfl, Nat.le_of_ble_eq_true rfl⟩ rfl ?_
          refine tm_istore X [(5, .int r7), (0, .ref (ad 300)), (1, .int x1), (2, .int x2), (3, .int x3), (4, .int x4)] dX5_wayTo_32 (Nat.le_of_ble_eq_true rfl) rfl ?_
          refine tm_iload X 5 dX5_wayTo_34 rfl ?_
          refine tm_if_ne X 46 dX5_wayTo_36 rfl ?_ ?_
          · skip
            refine tm_aload_n X 1 dX5_wayTo_46 rfl rfl ?_
            refine tm_bipush X (50 : Int32) dX5_wayTo_47 (by decide) ?_
            refine tm_iload_n X 4 dX5_wayTo_49 rfl rfl ?_
            refine tm_cl2 (fun r10 h11 e9 => ?_)
            refine tm_callVi (As := [.int (50 : Int32), .int x3]) (rest := []) (q0 := 0) X (ctX5_rounds l D ad dA h (50 : Int32) x3 r10 h11 e9) (lw_V q1581 q1583 qs84 q122 q1584) cyX5_rounds rfl rfl rfl ⟨(Nat.le_of_ble_eq_true rfl), (Nat.le_of_ble_eq_true rfl)⟩ (Nat.le_of_ble_eq_true rfl) dX5_wayTo_50 ⟨Nat.le_of_ble_eq_true rfl, Nat.le_of_ble_eq_true rfl⟩ rfl ?_
            refine tm_pop X dX5_wayTo_53 rfl ?_
            refine tm_aload_n X 1 dX5_wayTo_54 rfl rfl ?_
            refine tm_getR X (frM_300_44 ad dA h11) in_X5 rfl (Nat.le_of_ble_eq_true rfl) q1231 rfl dX5_wayTo_55 ?_
            refine tm_iload X 0 dX5_wayTo_58 rfl ?_
            refine tm_iaload X (arM_244 ad dA) dX5_wayTo_60 ?_
            refine tm_iconst X (-1 : Int32) dX5_wayTo_61 (by decide) ?_
            refine tm_let (fun k => ∀ (s12 : Int32), TM G (r, h') (k s12) (wM ad dA h11) 0 0 77 [] [.int s12]) ?_ (fun k77 hk77 => ?_)
            · intro s12
              exact tm_retIH (wf := wM ad dA) hRet dX5_wayTo_77
            · skip
              refine tm_ic_ne X 70 dX5_wayTo_62 rfl ?_ ?_
              · skip
                refine tm_aload_n X 1 dX5_wayTo_70 rfl rfl ?_
                refine tm_getR X (frM_300_44 ad dA h11) in_X5 rfl (Nat.le_of_ble_eq_true rfl) q1231 rfl dX5_wayTo_71 ?_
                refine tm_iload X 0 dX5_wayTo_74 rfl ?_
                refine tm_iaload X (arM_244 ad dA) dX5_wayTo_76 ?_
                refine tm_lv X [] rfl ?_
                exact hk77 (h11 244 r7.toNatClampNeg)
              · skip
                refine tm_bipush X (-2 : Int32) dX5_wayTo_65 (by decide) ?_
                refine tm_goto X 77 dX5_wayTo_67 rfl ?_
                refine tm_lv X [] rfl ?_
                exact hk77 (-2 : Int32)
          · skip
            refine tm_aload_n X 1 dX5_wayTo_39 rfl rfl ?_
            refine tm_iload X 0 dX5_wayTo_40 rfl ?_
            refine tm_cl2 (fun r14 h15 e13 => ?_)
            refine tm_callVi (As := [.int r7]) (rest := []) (q0 := 0) X (ctX5_freest l D ad dA h r7 r14 h15 e13) (lw_V q1599 q1601 qs86 q122 q1602) cyX5_freest rfl rfl rfl ⟨(Nat.le_of_ble_eq_true rfl), (Nat.le_of_ble_eq_true rfl)⟩ (Nat.le_of_ble_eq_true rfl) dX5_wayTo_42 ⟨Nat.le_of_ble_eq_true rfl, Nat.le_of_ble_eq_true rfl⟩ rfl ?_
            exact tm_retIH (wf := wM ad dA) hRet dX5_wayTo_45
        · skip
          refine tm_lv X [] rfl ?_
          exact hk25
def mX5_octet (h : Hp) (x1 : Int32) : Option (Int32) :=
ck x1 260 (
some ((h 205 x1.toNatClampNeg) &&& (255 : Int32)))
theorem cyX5_octet : Callee yX5_octet 1 := by unfold Callee; decide +kernel
set_option maxHeartbeats 4000000 in
theorem ctX5_octet (l : Launch) (D : va_G) (ad : Nat → Nat) (dA : Nat → ClassId) (h : Hp) (x1 : Int32) (r : Int32) (hm : mX5_octet h x1 = some r) : CT l yX5_octet cX5_octet 2 (some .int) D dA 0 0 0 0 (wM ad dA h) [.ref (ad 300), .int x1] (some (.int r)) (wM ad dA h) := by
  refine ct_open (by decide) (Nat.le_of_ble_eq_true rfl) ?_
  intro G X hI hZ hV hR
  have hRet := hI rfl r rfl
  refine (show TM G r (mX5_octet h x1) (wM ad dA h) 0 0 0 [(0, .ref (ad 300)), (1, .int x1)] [] from ?_) hm
  clear hm hI hZ hV hR
  unfold mX5_octet
  refine tm_aload_n X 0 dX5_octet_0 rfl rfl ?_
  refine tm_getR X (frM_300_5 ad dA h) in_X5 rfl (Nat.le_of_ble_eq_true rfl) q1192 rfl dX5_octet_1 ?_
  refine tm_iload_n X 1 dX5_octet_4 rfl rfl ?_
  refine tm_baloadB X (arM_205 ad dA) dX5_octet_5 ?_
  refine tm_sipush X (255 : Int32) dX5_octet_6 (by decide) ?_
  refine tm_iand X dX5_octet_9 ?_
  exact tm_retI hRet dX5_octet_10
def mX5_restAt (h : Hp) (x1 : Int32) : Option (Int32) :=
cl1 (mX5_upperAt h x1) (fun r2 =>
cl1 (mX5_lowerAt h x1) (fun r4 =>
some (r2 + r4)))
theorem cyX5_restAt : Callee yX5_restAt 1 := by unfold Callee; decide +kernel
set_option maxHeartbeats 4000000 in
theorem ctX5_restAt (l : Launch) (D : va_G) (ad : Nat → Nat) (dA : Nat → ClassId) (h : Hp) (x1 : Int32) (r : Int32) (hm : mX5_restAt h x1 = some r) : CT l yX5_restAt cX5_restAt 2 (some .int) D dA 1 21 0 0 (wM ad dA h) [.ref (ad 300), .int x1] (some (.int r)) (wM ad dA h) := by
  refine ct_open (by decide) (Nat.le_of_ble_eq_true rfl) ?_
  intro G X hI hZ hV hR
  have hRet := hI rfl r rfl
  refine (show TM G r (mX5_restAt h x1) (wM ad dA h) 0 0 0 [(0, .ref (ad 300)), (1, .int x1)] [] from ?_) hm
  clear hm hI hZ hV hR
  unfold mX5_restAt
  refine tm_aload_n X 0 dX5_restAt_0 rfl rfl ?_
  refine tm_iload_n X 1 dX5_restAt_1 rfl rfl ?_
  refine tm_cl1 (fun r2 e1 => ?_)
  refine tm_callVi (As := [.int x1]) (rest := []) (q0 := 0) X (ctX5_upperAt l D ad dA h x1 r2 e1) (lw_V q1531 q1533 qs77 q122 q1534) cyX5_upperAt rfl rfl rfl ⟨(Nat.le_of_ble_eq_true rfl), (Nat.le_of_ble_eq_true rfl)⟩ (Nat.le_of_ble_eq_true rfl) dX5_restAt_2 ⟨Nat.le_of_ble_eq_true rfl, Nat.le_of_ble_eq_true rfl⟩ rfl ?_
  refine tm_aload_n X 0 dX5_restAt_5 rfl rfl ?_
  refine tm_iload_n X 1 dX5_restAt_6 rfl rfl ?_
  refine tm_cl1 (fun r4 e3 => ?_)
  refine tm_callVi (As := [.int x1]) (rest := [.int r2]) (q0 := 0) X (ctX5_lowerAt l D ad dA h x1 r4 e3) (lw_V q1535 q1537 qs78 q122 q1538) cyX5_lowerAt rfl rfl rfl ⟨(Nat.le_of_ble_eq_true rfl), (Nat.le_of_ble_eq_true rfl)⟩ (Nat.le_of_ble_eq_true rfl) dX5_restAt_7 ⟨Nat.le_of_ble_eq_true rfl, Nat.le_of_ble_eq_true rfl⟩ rfl ?_
  refine tm_iadd X dX5_restAt_10 ?_
  exact tm_retI hRet dX5_restAt_11
def mX5_strokesTo (h : Hp) (x1 : Int32) : Option (Int32) :=
fx FU (fun _ _ => none) (fun k4 (x2_1 : Int32) (x3_2 : Int32) =>
if (48 : Int32) ≤ x3_2 then (
some x2_1) else (
cl1 (mX5_restAt h x3_2) (fun r4 =>
nm ((r4 - x1)) (fun v5 =>
nm (
cl1 (mX5_max (0 : Int32) v5) (fun r6 =>
nm ((x2_1 + r6)) (fun v8 =>
k4 v8 (x3_2 + (1 : Int32))))) (fun k36 =>
if v5 ≤ 0 then (
k36) else (
ck x3_2 48 (
if (h 202 x3_2.toNatClampNeg) = 0 then (
k36) else (
some (-2 : Int32))))))))) (0 : Int32) (0 : Int32)
theorem cyX5_strokesTo : Callee yX5_strokesTo 1 := by unfold Callee; decide +kernel
set_option maxHeartbeats 4000000 in
theorem ctX5_strokesTo (l : Launch) (D : va_G) (ad : Nat → Nat) (dA : Nat → ClassId) (h : Hp) (x1 : Int32) (r : Int32) (hm : mX5_strokesTo h x1 = some r) : CT l yX5_strokesTo cX5_strokesTo 5 (some .int) D dA 2 42 0 0 (wM ad dA h) [.ref (ad 300), .int x1] (some (.int r)) (wM ad dA h) := by
  refine ct_open (by decide) (Nat.le_of_ble_eq_true rfl) ?_
  intro G X hI hZ hV hR
  have hRet := hI rfl r rfl
  refine (show TM G r (mX5_strokesTo h x1) (wM ad dA h) 0 0 0 [(0, .ref (ad 300)), (1, .int x1)] [] from ?_) hm
  clear hm hI hZ hV hR
  unfold mX5_strokesTo
  refine tm_iconst X (0 : Int32) dX5_strokesTo_0 (by decide) ?_
  refine tm_istore_n X [(2, .int (0 : Int32)), (0, .ref (ad 300)), (1, .int x1)] dX5_strokesTo_1 rfl (Nat.le_of_ble_eq_true rfl) rfl ?_
  refine tm_iconst X (0 : Int32) dX5_strokesTo_2 (by decide) ?_
  refine tm_istore_n X [(3, .int (0 : Int32)), (2, .int (0 : Int32)), (0, .ref (ad 300)), (1, .int x1)] dX5_strokesTo_3 rfl (Nat.le_of_ble_eq_true rfl) rfl ?_
  refine tm_lv X [2, 3, 1, 0] rfl ?_
  refine fx_P (fun (k : Int32 → Int32 → Option (Int32)) => ∀ (x2_1 : Int32) (x3_2 : Int32), TM G r (k x2_1 x3_2) (wM ad dA h) 0 0 4 [(0, .ref (ad 300)), (1, .int x1), (2, .int x2_1), (3, .int x3_2)] []) (fun _ _ => tm_none) (fun k4 hk4 x2_1 x3_2 => ?_) FU (0 : Int32) (0 : Int32)
  refine tm_iload_n X 3 dX5_strokesTo_4 rfl rfl ?_
  refine tm_bipush X (48 : Int32) dX5_strokesTo_5 (by decide) ?_
  refine tm_ic_ge X 51 dX5_strokesTo_7 rfl ?_ ?_
  · skip
    refine tm_iload_n X 2 dX5_strokesTo_51 rfl rfl ?_
    exact tm_retI hRet dX5_strokesTo_52
  · skip
    refine tm_aload_n X 0 dX5_strokesTo_10 rfl rfl ?_
    refine tm_iload_n X 3 dX5_strokesTo_11 rfl rfl ?_
    refine tm_cl1 (fun r4 e3 => ?_)
    refine tm_callVi (As := [.int x3_2]) (rest := []) (q0 := 0) X (ctX5_restAt l D ad dA h x3_2 r4 e3) (lw_V q1611 q1613 qs88 q122 q1614) cyX5_restAt rfl rfl rfl ⟨(Nat.le_of_ble_eq_true rfl), (Nat.le_of_ble_eq_true rfl)⟩ (Nat.le_of_ble_eq_true rfl) dX5_strokesTo_12 ⟨Nat.le_of_ble_eq_true rfl, Nat.le_of_ble_eq_true rfl⟩ rfl ?_
    refine tm_iload_n X 1 dX5_strokesTo_15 rfl rfl ?_
    refine tm_isub X dX5_strokesTo_16 ?_
    refine tm_nmI (fun v5 => ?_)
    refine tm_istore X [(4, .int v5), (0, .ref (ad 300)), (1, .int x1), (2, .int x2_1), (3, .int x3_2)] dX5_strokesTo_17 (Nat.le_of_ble_eq_true rfl) rfl ?_
    refine tm_iload X 0 dX5_strokesTo_19 rfl ?_
    refine tm_let (fun k => TM G r k (wM ad dA h) 0 0 36 [(0, .ref (ad 300)), (1, .int x1), (2, .int x2_1), (3, .int x3_2), (4, .int v5)] []) ?_ (fun k36 hk36 => ?_)
    · skip
      refine tm_iload_n X 2 dX5_strokesTo_36 rfl rfl ?_
      refine tm_iconst X (0 : Int32) dX5_strokesTo_37 (by decide) ?_
      refine tm_iload X 4 dX5_strokesTo_38 rfl ?_
      refine tm_cl1 (fun r6 e7 => ?_)
      refine tm_callSi (As := [.int (0 : Int32), .int v5]) (rest := [.int x2_1]) X (ctX5_max l D dA (0 : Int32) v5 r6 e7) (lw_S q1539 q1540 q122 q1541) cyX5_max rfl ⟨(Nat.le_of_ble_eq_true rfl), (Nat.le_of_ble_eq_true rfl)⟩ (Nat.le_of_ble_eq_true rfl) dX5_strokesTo_40 ⟨Nat.le_of_ble_eq_true rfl, Nat.le_of_ble_eq_true rfl⟩ rfl ?_
      refine tm_iadd X dX5_strokesTo_43 ?_
      refine tm_nmI (fun v8 => ?_)
      refine tm_istore_n X [(2, .int v8), (0, .ref (ad 300)), (1, .int x1), (3, .int x3_2), (4, .int v5)] dX5_strokesTo_44 rfl (Nat.le_of_ble_eq_true rfl) rfl ?_
      refine tm_iinc (v := (1 : Int32)) X 3 [(3, .int (x3_2 + (1 : Int32))), (2, .int v8), (0, .ref (ad 300)), (1, .int x1), (4, .int v5)] dX5_strokesTo_45 rfl (by decide) (Nat.le_of_ble_eq_true rfl) rfl ?_
      refine tm_goto X 4 dX5_strokesTo_48 rfl ?_
      refine tm_lv X [2, 3, 1, 0] rfl ?_
      exact hk4 v8 (x3_2 + (1 : Int32))
    · skip
      refine tm_if_le X 36 dX5_strokesTo_21 rfl ?_ ?_
      · skip
        refine tm_lv X [1, 2, 3, 4, 0] rfl ?_
        exact hk36
      · skip
        refine tm_aload_n X 1 dX5_strokesTo_24 rfl rfl ?_
        refine tm_getR X (frM_300_2 ad dA h) in_X5 rfl (Nat.le_of_ble_eq_true rfl) q1189 rfl dX5_strokesTo_25 ?_
        refine tm_iload_n X 4 dX5_strokesTo_28 rfl rfl ?_
        refine tm_baloadZ X (arM_202 ad dA) dX5_strokesTo_29 ?_
        refine tm_if_eq X 36 dX5_strokesTo_30 rfl ?_ ?_
        · skip
          refine tm_lv X [1, 2, 3, 4, 0] rfl ?_
          exact hk36
        · skip
          refine tm_bipush X (-2 : Int32) dX5_strokesTo_33 (by decide) ?_
          exact tm_retI hRet dX5_strokesTo_35
def mX5_toBear (h : Hp) (x1 : Int32) : Option (Int32 × Hp) :=
cl1 (mX5_in x1 (1 : Int32) (16 : Int32)) (fun r1 =>
nm (
some ((-1 : Int32), h)) (fun k18 =>
if r1 = 0 then (
k18) else (
if x1 ≤ (h 300 6) then (
fx FU (fun _ _ _ => none) (fun k29 (x2_3 : Int32) (x3_4 : Int32) (x4_5 : Int32) =>
if x1 ≤ x4_5 then (
nm (u2 h 300 6 (0 : Int32)) (fun h6 =>
nm (fun (s7 : Int32) =>
some (s7, h6)) (fun k100 =>
if x3_4 = 0 then (
k100 (-3 : Int32)) else (
cl1 (mX5_strokesTo h6 x2_3) (fun r9 =>
k100 r9))))) else (
nm (fun (s10 : Int32) =>
nm (fun (x2_11 : Int32) =>
k29 x2_11 s10 (x4_5 + (1 : Int32))) (fun k75 =>
if s10 = 0 then (
k75 x2_3) else (
cl1 (mX5_octet h x4_5) (fun r13 =>
cl1 (mX5_restAt h r13) (fun r15 =>
cl1 (mX5_min x2_3 r15) (fun r16 =>
k75 r16)))))) (fun k55 =>
nm (
k55 (0 : Int32)) (fun k54 =>
if x3_4 = 0 then (
k54) else (
cl1 (mX5_octet h x4_5) (fun r19 =>
if (48 : Int32) ≤ r19 then (
k54) else (
k55 (1 : Int32)))))))) (1000000 : Int32) (1 : Int32) (0 : Int32)) else (
k18))))
theorem cyX5_toBear : Callee yX5_toBear 1 := by unfold Callee; decide +kernel
set_option maxHeartbeats 4000000 in
theorem ctX5_toBear (l : Launch) (D : va_G) (ad : Nat → Nat) (dA : Nat → ClassId) (h : Hp) (x1 : Int32) (r : Int32) (h' : Hp) (hm : mX5_toBear h x1 = some (r, h')) : CT l yX5_toBear cX5_toBear 5 (some .int) D dA 3 66 0 0 (wM ad dA h) [.ref (ad 300), .int x1] (some (.int r)) (wM ad dA h') := by
  refine ct_open (by decide) (Nat.le_of_ble_eq_true rfl) ?_
  intro G X hI hZ hV hR
  have hRet := hI rfl r rfl
  refine (show TM G (r, h') (mX5_toBear h x1) (wM ad dA h) 0 0 0 [(0, .ref (ad 300)), (1, .int x1)] [] from ?_) hm
  clear hm hI hZ hV hR
  unfold mX5_toBear
  refine tm_iload_n X 1 dX5_toBear_0 rfl rfl ?_
  refine tm_iconst X (1 : Int32) dX5_toBear_1 (by decide) ?_
  refine tm_bipush X (16 : Int32) dX5_toBear_2 (by decide) ?_
  refine tm_cl1 (fun r1 e2 => ?_)
  refine tm_callSi (As := [.int x1, .int (1 : Int32), .int (16 : Int32)]) (rest := []) X (ctX5_in l D dA x1 (1 : Int32) (16 : Int32) r1 e2) (lw_S q1366 q1367 q122 q1368) cyX5_in rfl ⟨(Nat.le_of_ble_eq_true rfl), (Nat.le_of_ble_eq_true rfl)⟩ (Nat.le_of_ble_eq_true rfl) dX5_toBear_4 ⟨Nat.le_of_ble_eq_true rfl, Nat.le_of_ble_eq_true rfl⟩ rfl ?_
  refine tm_let (fun k => TM G (r, h') k (wM ad dA h) 0 0 18 [] []) ?_ (fun k18 hk18 => ?_)
  · skip
    refine tm_iconst X (-1 : Int32) dX5_toBear_18 (by decide) ?_
    exact tm_retIH (wf := wM ad dA) hRet dX5_toBear_19
  · skip
    refine tm_if_eq X 18 dX5_toBear_7 rfl ?_ ?_
    · skip
      refine tm_lv X [] rfl ?_
      exact hk18
    · skip
      refine tm_iload_n X 1 dX5_toBear_10 rfl rfl ?_
      refine tm_aload_n X 0 dX5_toBear_11 rfl rfl ?_
      refine tm_getI X (fiM_300_6 ad dA) in_X5 rfl (Nat.le_of_ble_eq_true rfl) q1193 rfl dX5_toBear_12 ?_
      refine tm_ic_le X 20 dX5_toBear_15 rfl ?_ ?_
      · skip
        refine tm_ldcw X (1000000 : Int32) q1557 dX5_toBear_20 ?_
        refine tm_istore_n X [(2, .int (1000000 : Int32)), (0, .ref (ad 300)), (1, .int x1)] dX5_toBear_23 rfl (Nat.le_of_ble_eq_true rfl) rfl ?_
        refine tm_iconst X (1 : Int32) dX5_toBear_24 (by decide) ?_
        refine tm_istore_n X [(3, .int (1 : Int32)), (2, .int (1000000 : Int32)), (0, .ref (ad 300)), (1, .int x1)] dX5_toBear_25 rfl (Nat.le_of_ble_eq_true rfl) rfl ?_
        refine tm_iconst X (0 : Int32) dX5_toBear_26 (by decide) ?_
        refine tm_istore X [(4, .int (0 : Int32)), (3, .int (1 : Int32)), (2, .int (1000000 : Int32)), (0, .ref (ad 300)), (1, .int x1)] dX5_toBear_27 (Nat.le_of_ble_eq_true rfl) rfl ?_
        refine tm_lv X [3, 4, 2, 1, 0] rfl ?_
        refine fx_P (fun (k : Int32 → Int32 → Int32 → Option (Int32 × Hp)) => ∀ (x2_3 : Int32) (x3_4 : Int32) (x4_5 : Int32), TM G (r, h') (k x2_3 x3_4 x4_5) (wM ad dA h) 0 0 29 [(0, .ref (ad 300)), (1, .int x1), (2, .int x2_3), (3, .int x3_4), (4, .int x4_5)] []) (fun _ _ _ => tm_none) (fun k29 hk29 x2_3 x3_4 x4_5 => ?_) FU (1000000 : Int32) (1 : Int32) (0 : Int32)
        refine tm_iload X 4 dX5_toBear_29 rfl ?_
        refine tm_iload_n X 1 dX5_toBear_31 rfl rfl ?_
        refine tm_ic_ge X 81 dX5_toBear_32 rfl ?_ ?_
        · skip
          refine tm_aload_n X 0 dX5_toBear_81 rfl rfl ?_
          refine tm_iconst X (0 : Int32) dX5_toBear_82 (by decide) ?_
          refine tm_putI X (fiM_300_6 ad dA) in_X5 rfl (Nat.le_of_ble_eq_true rfl) tyX5 tyX5_ok nmX5 rfl rfl q1193 rfl dX5_toBear_83 (fun h6 => ?_)
          refine tm_iload_n X 3 dX5_toBear_86 rfl rfl ?_
          refine tm_let (fun k => ∀ (s7 : Int32), TM G (r, h') (k s7) (wM ad dA h6) 0 0 100 [] [.int s7]) ?_ (fun k100 hk100 => ?_)
          · intro s7
            exact tm_retIH (wf := wM ad dA) hRet dX5_toBear_100
          · skip
            refine tm_if_eq X 98 dX5_toBear_87 rfl ?_ ?_
            · skip
              refine tm_bipush X (-3 : Int32) dX5_toBear_98 (by decide) ?_
              refine tm_lv X [] rfl ?_
              exact hk100 (-3 : Int32)
            · skip
              refine tm_aload_n X 0 dX5_toBear_90 rfl rfl ?_
              refine tm_iload_n X 2 dX5_toBear_91 rfl rfl ?_
              refine tm_cl1 (fun r9 e8 => ?_)
              refine tm_callVi (As := [.int x2_3]) (rest := []) (q0 := 0) X (ctX5_strokesTo l D ad dA h6 x2_3 r9 e8) (lw_V q1615 q1617 qs89 q122 q1618) cyX5_strokesTo rfl rfl rfl ⟨(Nat.le_of_ble_eq_true rfl), (Nat.le_of_ble_eq_true rfl)⟩ (Nat.le_of_ble_eq_true rfl) dX5_toBear_92 ⟨Nat.le_of_ble_eq_true rfl, Nat.le_of_ble_eq_true rfl⟩ rfl ?_
              refine tm_goto X 100 dX5_toBear_95 rfl ?_
              refine tm_lv X [] rfl ?_
              exact hk100 r9
        · skip
          refine tm_iload_n X 3 dX5_toBear_35 rfl rfl ?_
          refine tm_let (fun k => ∀ (s10 : Int32), TM G (r, h') (k s10) (wM ad dA h) 0 0 55 [(0, .ref (ad 300)), (1, .int x1), (2, .int x2_3), (4, .int x4_5)] [.int s10]) ?_ (fun k55 hk55 => ?_)
          · intro s10
            refine tm_istore_n X [(3, .int s10), (0, .ref (ad 300)), (1, .int x1), (2, .int x2_3), (4, .int x4_5)] dX5_toBear_55 rfl (Nat.le_of_ble_eq_true rfl) rfl ?_
            refine tm_iload_n X 0 dX5_toBear_56 rfl rfl ?_
            refine tm_let (fun k => ∀ (x2_11 : Int32), TM G (r, h') (k x2_11) (wM ad dA h) 0 0 75 [(0, .ref (ad 300)), (1, .int x1), (2, .int x2_11), (3, .int s10), (4, .int x4_5)] []) ?_ (fun k75 hk75 => ?_)
            · intro x2_11
              refine tm_iinc (v := (1 : Int32)) X 4 [(4, .int (x4_5 + (1 : Int32))), (0, .ref (ad 300)), (1, .int x1), (2, .int x2_11), (3, .int s10)] dX5_toBear_75 rfl (by decide) (Nat.le_of_ble_eq_true rfl) rfl ?_
              refine tm_goto X 29 dX5_toBear_78 rfl ?_
              refine tm_lv X [1, 2, 3, 4, 0] rfl ?_
              exact hk29 x2_11 s10 (x4_5 + (1 : Int32))
            · skip
              refine tm_if_eq X 75 dX5_toBear_57 rfl ?_ ?_
              · skip
                refine tm_lv X [1, 2, 3, 0, 4] rfl ?_
                exact hk75 x2_3
              · skip
                refine tm_iload_n X 3 dX5_toBear_60 rfl rfl ?_
                refine tm_aload_n X 1 dX5_toBear_61 rfl rfl ?_
                refine tm_aload_n X 1 dX5_toBear_62 rfl rfl ?_
                refine tm_iload X 4 dX5_toBear_63 rfl ?_
                refine tm_cl1 (fun r13 e12 => ?_)
                refine tm_callVi (As := [.int x4_5]) (rest := [.ref (ad 300), .int x2_3]) (q0 := 0) X (ctX5_octet l D ad dA h x4_5 r13 e12) (lw_V q1607 q1609 qs87 q122 q1610) cyX5_octet rfl rfl rfl ⟨(Nat.le_of_ble_eq_true rfl), (Nat.le_of_ble_eq_true rfl)⟩ (Nat.le_of_ble_eq_true rfl) dX5_toBear_65 ⟨Nat.le_of_ble_eq_true rfl, Nat.le_of_ble_eq_true rfl⟩ rfl ?_
                refine tm_cl1 (fun r15 e14 => ?_)
                refine tm_callVi (As := [.int r13]) (rest := [.int x2_3]) (q0 := 0) X (ctX5_restAt l D ad dA h r13 r15 e14) (lw_V q1611 q1613 qs88 q122 q1614) cyX5_restAt rfl rfl rfl ⟨(Nat.le_of_ble_eq_true rfl), (Nat.le_of_ble_eq_true rfl)⟩ (Nat.le_of_ble_eq_true rfl) dX5_toBear_68 ⟨Nat.le_of_ble_eq_true rfl, Nat.le_of_ble_eq_true rfl⟩ rfl ?_
                refine tm_cl1 (fun r16 e17 => ?_)
                refine tm_callSi (As := [.int x2_3, .int r15]) (rest := []) X (ctX5_min l D dA x2_3 r15 r16 e17) (lw_S q1558 q1559 q122 q1560) cyX5_min rfl ⟨(Nat.le_of_ble_eq_true rfl), (Nat.le_of_ble_eq_true rfl)⟩ (Nat.le_of_ble_eq_true rfl) dX5_toBear_71 ⟨Nat.le_of_ble_eq_true rfl, Nat.le_of_ble_eq_true rfl⟩ rfl ?_
                refine tm_istore_n X [(2, .int r16), (3, .int s10), (0, .ref (ad 300)), (1, .int x1), (4, .int x4_5)] dX5_toBear_74 rfl (Nat.le_of_ble_eq_true rfl) rfl ?_
                refine tm_lv X [2, 3, 0, 1, 4] rfl ?_
                exact hk75 r16
          · skip
            refine tm_let (fun k => TM G (r, h') k (wM ad dA h) 0 0 54 [(0, .ref (ad 300)), (1, .int x1), (2, .int x2_3), (4, .int x4_5)] []) ?_ (fun k54 hk54 => ?_)
            · skip
              refine tm_iconst X (0 : Int32) dX5_toBear_54 (by decide) ?_
              exact hk55 (0 : Int32)
            · skip
              refine tm_if_eq X 54 dX5_toBear_36 rfl ?_ ?_
              · skip
                refine tm_lv X [0, 1, 2, 4] rfl ?_
                exact hk54
              · skip
                refine tm_aload_n X 0 dX5_toBear_39 rfl rfl ?_
                refine tm_iload X 4 dX5_toBear_40 rfl ?_
                refine tm_cl1 (fun r19 e18 => ?_)
                refine tm_callVi (As := [.int x4_5]) (rest := []) (q0 := 0) X (ctX5_octet l D ad dA h x4_5 r19 e18) (lw_V q1607 q1609 qs87 q122 q1610) cyX5_octet rfl rfl rfl ⟨(Nat.le_of_ble_eq_true rfl), (Nat.le_of_ble_eq_true rfl)⟩ (Nat.le_of_ble_eq_true rfl) dX5_toBear_42 ⟨Nat.le_of_ble_eq_true rfl, Nat.le_of_ble_eq_true rfl⟩ rfl ?_
                refine tm_bipush X (48 : Int32) dX5_toBear_45 (by decide) ?_
                refine tm_ic_ge X 54 dX5_toBear_47 rfl ?_ ?_
                · skip
                  refine tm_lv X [0, 1, 2, 4] rfl ?_
                  exact hk54
                · skip
                  refine tm_iconst X (1 : Int32) dX5_toBear_50 (by decide) ?_
                  refine tm_goto X 55 dX5_toBear_51 rfl ?_
                  refine tm_lv X [0, 1, 2, 4] rfl ?_
                  exact hk55 (1 : Int32)
      · skip
        refine tm_lv X [] rfl ?_
        exact hk18
def mX5_toLower (h : Hp) (x1 : Int32) : Option (Int32) :=
cl1 (mX5_isSum x1) (fun r1 =>
nm (fun (s3 : Int32) =>
some s3) (fun k16 =>
if r1 = 0 then (
k16 (-1 : Int32)) else (
cl1 (mX5_strokesTo h x1) (fun r5 =>
k16 r5))))
theorem cyX5_toLower : Callee yX5_toLower 1 := by unfold Callee; decide +kernel
set_option maxHeartbeats 4000000 in
theorem ctX5_toLower (l : Launch) (D : va_G) (ad : Nat → Nat) (dA : Nat → ClassId) (h : Hp) (x1 : Int32) (r : Int32) (hm : mX5_toLower h x1 = some r) : CT l yX5_toLower cX5_toLower 2 (some .int) D dA 3 66 0 0 (wM ad dA h) [.ref (ad 300), .int x1] (some (.int r)) (wM ad dA h) := by
  refine ct_open (by decide) (Nat.le_of_ble_eq_true rfl) ?_
  intro G X hI hZ hV hR
  have hRet := hI rfl r rfl
  refine (show TM G r (mX5_toLower h x1) (wM ad dA h) 0 0 0 [(0, .ref (ad 300)), (1, .int x1)] [] from ?_) hm
  clear hm hI hZ hV hR
  unfold mX5_toLower
  refine tm_iload_n X 1 dX5_toLower_0 rfl rfl ?_
  refine tm_cl1 (fun r1 e2 => ?_)
  refine tm_callSi (As := [.int x1]) (rest := []) X (ctX5_isSum l D dA x1 r1 e2) (lw_S q1517 q1518 q122 q1519) cyX5_isSum rfl ⟨(Nat.le_of_ble_eq_true rfl), (Nat.le_of_ble_eq_true rfl)⟩ (Nat.le_of_ble_eq_true rfl) dX5_toLower_1 ⟨Nat.le_of_ble_eq_true rfl, Nat.le_of_ble_eq_true rfl⟩ rfl ?_
  refine tm_let (fun k => ∀ (s3 : Int32), TM G r (k s3) (wM ad dA h) 0 0 16 [] [.int s3]) ?_ (fun k16 hk16 => ?_)
  · intro s3
    exact tm_retI hRet dX5_toLower_16
  · skip
    refine tm_if_eq X 15 dX5_toLower_4 rfl ?_ ?_
    · skip
      refine tm_iconst X (-1 : Int32) dX5_toLower_15 (by decide) ?_
      refine tm_lv X [] rfl ?_
      exact hk16 (-1 : Int32)
    · skip
      refine tm_aload_n X 0 dX5_toLower_7 rfl rfl ?_
      refine tm_iload_n X 1 dX5_toLower_8 rfl rfl ?_
      refine tm_cl1 (fun r5 e4 => ?_)
      refine tm_callVi (As := [.int x1]) (rest := []) (q0 := 0) X (ctX5_strokesTo l D ad dA h x1 r5 e4) (lw_V q1615 q1617 qs89 q122 q1618) cyX5_strokesTo rfl rfl rfl ⟨(Nat.le_of_ble_eq_true rfl), (Nat.le_of_ble_eq_true rfl)⟩ (Nat.le_of_ble_eq_true rfl) dX5_toLower_9 ⟨Nat.le_of_ble_eq_true rfl, Nat.le_of_ble_eq_true rfl⟩ rfl ?_
      refine tm_goto X 16 dX5_toLower_12 rfl ?_
      refine tm_lv X [] rfl ?_
      exact hk16 r5
def mX5_above (h : Hp) (x1 : Int32) (x2 : Int32) : Option (Int32) :=
fx FU (fun _ _ => none) (fun k5 (x3_1 : Int32) (x4_2 : Int32) =>
if (48 : Int32) ≤ x4_2 then (
some x3_1) else (
nm ((((48 : Int32) * x1) + x4_2)) (fun v3 =>
ck v3 96 (
cl1 (mX5_max (0 : Int32) ((h 200 v3.toNatClampNeg) - x2)) (fun r4 =>
nm ((x3_1 + r4)) (fun v6 =>
k5 v6 (x4_2 + (1 : Int32)))))))) (0 : Int32) (0 : Int32)
theorem cyX5_above : Callee yX5_above 2 := by unfold Callee; decide +kernel
set_option maxHeartbeats 4000000 in
theorem ctX5_above (l : Launch) (D : va_G) (ad : Nat → Nat) (dA : Nat → ClassId) (h : Hp) (x1 : Int32) (x2 : Int32) (r : Int32) (hm : mX5_above h x1 x2 = some r) : CT l yX5_above cX5_above 5 (some .int) D dA 1 21 0 0 (wM ad dA h) [.ref (ad 300), .int x1, .int x2] (some (.int r)) (wM ad dA h) := by
  refine ct_open (by decide) (Nat.le_of_ble_eq_true rfl) ?_
  intro G X hI hZ hV hR
  have hRet := hI rfl r rfl
  refine (show TM G r (mX5_above h x1 x2) (wM ad dA h) 0 0 0 [(0, .ref (ad 300)), (1, .int x1), (2, .int x2)] [] from ?_) hm
  clear hm hI hZ hV hR
  unfold mX5_above
  refine tm_iconst X (0 : Int32) dX5_above_0 (by decide) ?_
  refine tm_istore_n X [(3, .int (0 : Int32)), (0, .ref (ad 300)), (1, .int x1), (2, .int x2)] dX5_above_1 rfl (Nat.le_of_ble_eq_true rfl) rfl ?_
  refine tm_iconst X (0 : Int32) dX5_above_2 (by decide) ?_
  refine tm_istore X [(4, .int (0 : Int32)), (3, .int (0 : Int32)), (0, .ref (ad 300)), (1, .int x1), (2, .int x2)] dX5_above_3 (Nat.le_of_ble_eq_true rfl) rfl ?_
  refine tm_lv X [2, 3, 4, 1, 0] rfl ?_
  refine fx_P (fun (k : Int32 → Int32 → Option (Int32)) => ∀ (x3_1 : Int32) (x4_2 : Int32), TM G r (k x3_1 x4_2) (wM ad dA h) 0 0 5 [(0, .ref (ad 300)), (1, .int x1), (2, .int x2), (3, .int x3_1), (4, .int x4_2)] []) (fun _ _ => tm_none) (fun k5 hk5 x3_1 x4_2 => ?_) FU (0 : Int32) (0 : Int32)
  refine tm_iload X 4 dX5_above_5 rfl ?_
  refine tm_bipush X (48 : Int32) dX5_above_7 (by decide) ?_
  refine tm_ic_ge X 39 dX5_above_9 rfl ?_ ?_
  · skip
    refine tm_iload_n X 3 dX5_above_39 rfl rfl ?_
    exact tm_retI hRet dX5_above_40
  · skip
    refine tm_iload_n X 3 dX5_above_12 rfl rfl ?_
    refine tm_iconst X (0 : Int32) dX5_above_13 (by decide) ?_
    refine tm_aload_n X 0 dX5_above_14 rfl rfl ?_
    refine tm_getR X (frM_300_0 ad dA h) in_X5 rfl (Nat.le_of_ble_eq_true rfl) q1187 rfl dX5_above_15 ?_
    refine tm_bipush X (48 : Int32) dX5_above_18 (by decide) ?_
    refine tm_iload_n X 1 dX5_above_20 rfl rfl ?_
    refine tm_imul X dX5_above_21 ?_
    refine tm_iload X 4 dX5_above_22 rfl ?_
    refine tm_iadd X dX5_above_24 ?_
    refine tm_nmI (fun v3 => ?_)
    refine tm_iaload X (arM_200 ad dA) dX5_above_25 ?_
    refine tm_iload_n X 2 dX5_above_26 rfl rfl ?_
    refine tm_isub X dX5_above_27 ?_
    refine tm_cl1 (fun r4 e5 => ?_)
    refine tm_callSi (As := [.int (0 : Int32), .int ((h 200 v3.toNatClampNeg) - x2)]) (rest := [.int x3_1]) X (ctX5_max l D dA (0 : Int32) ((h 200 v3.toNatClampNeg) - x2) r4 e5) (lw_S q1539 q1540 q122 q1541) cyX5_max rfl ⟨(Nat.le_of_ble_eq_true rfl), (Nat.le_of_ble_eq_true rfl)⟩ (Nat.le_of_ble_eq_true rfl) dX5_above_28 ⟨Nat.le_of_ble_eq_true rfl, Nat.le_of_ble_eq_true rfl⟩ rfl ?_
    refine tm_iadd X dX5_above_31 ?_
    refine tm_nmI (fun v6 => ?_)
    refine tm_istore_n X [(3, .int v6), (0, .ref (ad 300)), (1, .int x1), (2, .int x2), (4, .int x4_2)] dX5_above_32 rfl (Nat.le_of_ble_eq_true rfl) rfl ?_
    refine tm_iinc (v := (1 : Int32)) X 4 [(4, .int (x4_2 + (1 : Int32))), (3, .int v6), (0, .ref (ad 300)), (1, .int x1), (2, .int x2)] dX5_above_33 rfl (by decide) (Nat.le_of_ble_eq_true rfl) rfl ?_
    refine tm_goto X 5 dX5_above_36 rfl ?_
    refine tm_lv X [2, 3, 4, 1, 0] rfl ?_
    exact hk5 v6 (x4_2 + (1 : Int32))
def mX5_anywhere (h : Hp) (x1 : Int32) : Option (Int32) :=
cl1 (mX5_isSum x1) (fun r1 =>
if r1 = 0 then (
some (-1 : Int32)) else (
fx FU (fun _ _ => none) (fun k15 (x2_3 : Int32) (x3_4 : Int32) =>
if x1 < x3_4 then (
some x2_3) else (
cl1 (mX5_above h (1 : Int32) x3_4) (fun r6 =>
cl1 (mX5_above h (0 : Int32) (x1 - x3_4)) (fun r8 =>
cl1 (mX5_min x2_3 (r6 + r8)) (fun r9 =>
k15 r9 (x3_4 + (1 : Int32))))))) (1000000 : Int32) (0 : Int32)))
theorem cyX5_anywhere : Callee yX5_anywhere 1 := by unfold Callee; decide +kernel
set_option maxHeartbeats 4000000 in
theorem ctX5_anywhere (l : Launch) (D : va_G) (ad : Nat → Nat) (dA : Nat → ClassId) (h : Hp) (x1 : Int32) (r : Int32) (hm : mX5_anywhere h x1 = some r) : CT l yX5_anywhere cX5_anywhere 4 (some .int) D dA 2 45 0 0 (wM ad dA h) [.ref (ad 300), .int x1] (some (.int r)) (wM ad dA h) := by
  refine ct_open (by decide) (Nat.le_of_ble_eq_true rfl) ?_
  intro G X hI hZ hV hR
  have hRet := hI rfl r rfl
  refine (show TM G r (mX5_anywhere h x1) (wM ad dA h) 0 0 0 [(0, .ref (ad 300)), (1, .int x1)] [] from ?_) hm
  clear hm hI hZ hV hR
  unfold mX5_anywhere
  refine tm_iload_n X 1 dX5_anywhere_0 rfl rfl ?_
  refine tm_cl1 (fun r1 e2 => ?_)
  refine tm_callSi (As := [.int x1]) (rest := []) X (ctX5_isSum l D dA x1 r1 e2) (lw_S q1517 q1518 q122 q1519) cyX5_isSum rfl ⟨(Nat.le_of_ble_eq_true rfl), (Nat.le_of_ble_eq_true rfl)⟩ (Nat.le_of_ble_eq_true rfl) dX5_anywhere_1 ⟨Nat.le_of_ble_eq_true rfl, Nat.le_of_ble_eq_true rfl⟩ rfl ?_
  refine tm_if_ne X 9 dX5_anywhere_4 rfl ?_ ?_
  · skip
    refine tm_ldcw X (1000000 : Int32) q1557 dX5_anywhere_9 ?_
    refine tm_istore_n X [(2, .int (1000000 : Int32)), (0, .ref (ad 300)), (1, .int x1)] dX5_anywhere_12 rfl (Nat.le_of_ble_eq_true rfl) rfl ?_
    refine tm_iconst X (0 : Int32) dX5_anywhere_13 (by decide) ?_
    refine tm_istore_n X [(3, .int (0 : Int32)), (2, .int (1000000 : Int32)), (0, .ref (ad 300)), (1, .int x1)] dX5_anywhere_14 rfl (Nat.le_of_ble_eq_true rfl) rfl ?_
    refine tm_lv X [2, 3, 1, 0] rfl ?_
    refine fx_P (fun (k : Int32 → Int32 → Option (Int32)) => ∀ (x2_3 : Int32) (x3_4 : Int32), TM G r (k x2_3 x3_4) (wM ad dA h) 0 0 15 [(0, .ref (ad 300)), (1, .int x1), (2, .int x2_3), (3, .int x3_4)] []) (fun _ _ => tm_none) (fun k15 hk15 x2_3 x3_4 => ?_) FU (1000000 : Int32) (0 : Int32)
    refine tm_iload_n X 3 dX5_anywhere_15 rfl rfl ?_
    refine tm_iload_n X 1 dX5_anywhere_16 rfl rfl ?_
    refine tm_ic_gt X 46 dX5_anywhere_17 rfl ?_ ?_
    · skip
      refine tm_iload_n X 2 dX5_anywhere_46 rfl rfl ?_
      exact tm_retI hRet dX5_anywhere_47
    · skip
      refine tm_iload_n X 2 dX5_anywhere_20 rfl rfl ?_
      refine tm_aload_n X 0 dX5_anywhere_21 rfl rfl ?_
      refine tm_iconst X (1 : Int32) dX5_anywhere_22 (by decide) ?_
      refine tm_iload_n X 3 dX5_anywhere_23 rfl rfl ?_
      refine tm_cl1 (fun r6 e5 => ?_)
      refine tm_callVi (As := [.int (1 : Int32), .int x3_4]) (rest := [.int x2_3]) (q0 := 0) X (ctX5_above l D ad dA h (1 : Int32) x3_4 r6 e5) (lw_V q1627 q1629 qs90 q122 q1630) cyX5_above rfl rfl rfl ⟨(Nat.le_of_ble_eq_true rfl), (Nat.le_of_ble_eq_true rfl)⟩ (Nat.le_of_ble_eq_true rfl) dX5_anywhere_24 ⟨Nat.le_of_ble_eq_true rfl, Nat.le_of_ble_eq_true rfl⟩ rfl ?_
      refine tm_aload_n X 0 dX5_anywhere_27 rfl rfl ?_
      refine tm_iconst X (0 : Int32) dX5_anywhere_28 (by decide) ?_
      refine tm_iload_n X 1 dX5_anywhere_29 rfl rfl ?_
      refine tm_iload_n X 3 dX5_anywhere_30 rfl rfl ?_
      refine tm_isub X dX5_anywhere_31 ?_
      refine tm_cl1 (fun r8 e7 => ?_)
      refine tm_callVi (As := [.int (0 : Int32), .int (x1 - x3_4)]) (rest := [.int r6, .int x2_3]) (q0 := 0) X (ctX5_above l D ad dA h (0 : Int32) (x1 - x3_4) r8 e7) (lw_V q1627 q1629 qs90 q122 q1630) cyX5_above rfl rfl rfl ⟨(Nat.le_of_ble_eq_true rfl), (Nat.le_of_ble_eq_true rfl)⟩ (Nat.le_of_ble_eq_true rfl) dX5_anywhere_32 ⟨Nat.le_of_ble_eq_true rfl, Nat.le_of_ble_eq_true rfl⟩ rfl ?_
      refine tm_iadd X dX5_anywhere_35 ?_
      refine tm_cl1 (fun r9 e10 => ?_)
      refine tm_callSi (As := [.int x2_3, .int (r6 + r8)]) (rest := []) X (ctX5_min l D dA x2_3 (r6 + r8) r9 e10) (lw_S q1558 q1559 q122 q1560) cyX5_min rfl ⟨(Nat.le_of_ble_eq_true rfl), (Nat.le_of_ble_eq_true rfl)⟩ (Nat.le_of_ble_eq_true rfl) dX5_anywhere_36 ⟨Nat.le_of_ble_eq_true rfl, Nat.le_of_ble_eq_true rfl⟩ rfl ?_
      refine tm_istore_n X [(2, .int r9), (0, .ref (ad 300)), (1, .int x1), (3, .int x3_4)] dX5_anywhere_39 rfl (Nat.le_of_ble_eq_true rfl) rfl ?_
      refine tm_iinc (v := (1 : Int32)) X 3 [(3, .int (x3_4 + (1 : Int32))), (2, .int r9), (0, .ref (ad 300)), (1, .int x1)] dX5_anywhere_40 rfl (by decide) (Nat.le_of_ble_eq_true rfl) rfl ?_
      refine tm_goto X 15 dX5_anywhere_43 rfl ?_
      refine tm_lv X [2, 3, 1, 0] rfl ?_
      exact hk15 r9 (x3_4 + (1 : Int32))
  · skip
    refine tm_iconst X (-1 : Int32) dX5_anywhere_7 (by decide) ?_
    exact tm_retI hRet dX5_anywhere_8
