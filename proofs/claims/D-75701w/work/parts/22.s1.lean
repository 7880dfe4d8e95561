set_option maxRecDepth 100000
def mX16_heights (h : Hp) (x1 : Int32) (x2 : Int32) : Option (Hp) :=
cl1 (mX15_isGood 80 h) (fun r2 =>
fx FU (fun _ _ _ => none) (fun k8 (x3_3 : Int32) (x4_4 : Int32) (h5 : Hp) =>
if x4_4 = 0 then (
some h5) else (
cl1 (mX15_place 80 h5) (fun r7 =>
cl2 (mX15_times 80 h5 (56 : Int32)) (fun r9 h10 =>
cl1 (mX15_sees 80 h10 (97 : Int32) (122 : Int32)) (fun r12 =>
nm (fun (h13 : Hp) =>
fx FU (fun _ _ _ => none) (fun k69 (x3_14 : Int32) (x7_15 : Int32) (h16 : Hp) =>
nm (
cl1 (mX15_goesOn 80 h16) (fun h18 =>
cl1 (mX15_isGood 80 h18) (fun r20 =>
nm (fun (s21 : Int32) =>
k8 x3_14 s21 h18) (fun k144 =>
nm (
k144 (0 : Int32)) (fun k143 =>
if r20 = 0 then (
k143) else (
cl1 (mX15_isEnd 80 h18) (fun r23 =>
if r23 = 0 then (
cl1 (mX15_here 80 h18) (fun r25 =>
if r25 = (59 : Int32) then (
k143) else (
k144 (1 : Int32)))) else (
k143)))))))) (fun k112 =>
if r9 ≤ x7_15 then (
k112) else (
cl1 (mX15_isGood 80 h16) (fun r27 =>
if r27 = 0 then (
k112) else (
ck x1 2 (
cl1 (mX15_here 80 h16) (fun r30 =>
ck (((8 : Int32) * x2) + x3_14) 48 (nm (u2 h16 (82 + x1.toNatClampNeg) (((8 : Int32) * x2) + x3_14).toNatClampNeg (r30 - (97 : Int32))) (fun h31 =>
k69 (x3_14 + (1 : Int32)) (x7_15 + (1 : Int32)) h31))))))))) x3_3 (0 : Int32) h13) (fun k66 =>
if r12 = 0 then (
cl1 (mX15_place 80 h10) (fun r35 =>
cl1 (mX15_bad 80 h10 (1 : Int32) r35) (fun h37 =>
k66 h37))) else (
if (x3_3 + r9) ≤ (8 : Int32) then (
k66 h10) else (
cl1 (mX15_bad 80 h10 (4 : Int32) r7) (fun h33 =>
k66 h33))))))))) (0 : Int32) r2 h)
theorem cyX16_heights : Callee yX16_heights 2 := by unfold Callee; decide +kernel
set_option maxHeartbeats 4000000 in
theorem ctX16_heights (l : Launch) (D : va_G) (ad ac : Nat → Nat) (dA : Nat → ClassId) (tt : (Nat → Option Nat) × (Nat → Option Nat) × va_W) (h : Hp) (x1 : Int32) (x2 : Int32) (h' : Hp) (hm : mX16_heights h x1 x2 = some h') : CT l yX16_heights cX16_heights 8 none D dA 3 64 0 0 (wXC ad ac dA tt h) [.ref (ac 80), .int x1, .int x2] none (wXC ad ac dA tt h') := by
  refine ct_open (by decide) (Nat.le_of_ble_eq_true rfl) ?_
  intro G X hI hZ hV hR
  have hRet := hV rfl rfl
  refine (show TM G h' (mX16_heights h x1 x2) (wXC ad ac dA tt h) 0 0 0 [(0, .ref (ac 80)), (1, .int x1), (2, .int x2)] [] from ?_) hm
  clear hm hI hZ hV hR
  unfold mX16_heights
  refine tm_iconst X (0 : Int32) dX16_heights_0 (by decide) ?_
  refine tm_istore_n X [(3, .int (0 : Int32)), (0, .ref (ac 80)), (1, .int x1), (2, .int x2)] dX16_heights_1 rfl (Nat.le_of_ble_eq_true rfl) rfl ?_
  refine tm_aload_n X 1 dX16_heights_2 rfl rfl ?_
  refine tm_cl1 (fun r2 e1 => ?_)
  refine tm_callUi (As := []) (rest := []) (q0 := (35 + tt.2.2.length + 0)) X (ctX15_isGood_80 l D ad ac dA tt h r2 e1) rfl (lw_U q676 q677 q679 q680 q138 q681) cyX15_isGood rfl (Classical.choose_spec (obXC_80 ad ac dA tt h)) rfl ⟨(Nat.le_of_ble_eq_true rfl), (Nat.le_of_ble_eq_true rfl)⟩ (Nat.le_of_ble_eq_true rfl) dX16_heights_3 ⟨Nat.le_of_ble_eq_true rfl, Nat.le_of_ble_eq_true rfl⟩ rfl ?_
  refine tm_istore X [(4, .int r2), (3, .int (0 : Int32)), (0, .ref (ac 80)), (1, .int x1), (2, .int x2)] dX16_heights_6 (Nat.le_of_ble_eq_true rfl) rfl ?_
  refine tm_lv X [2, 3, 4, 1, 0] rfl ?_
  refine fx_P (fun (k : Int32 → Int32 → Hp → Option (Hp)) => ∀ (x3_3 : Int32) (x4_4 : Int32) (h5 : Hp), TM G h' (k x3_3 x4_4 h5) (wXC ad ac dA tt h5) 0 0 8 [(0, .ref (ac 80)), (1, .int x1), (2, .int x2), (3, .int x3_3), (4, .int x4_4)] []) (fun _ _ _ => tm_none) (fun k8 hk8 x3_3 x4_4 h5 => ?_) FU (0 : Int32) r2 h
  refine tm_iload X 4 dX16_heights_8 rfl ?_
  refine tm_if_eq X 149 dX16_heights_10 rfl ?_ ?_
  · skip
    exact tm_retV (wf := wXC ad ac dA tt) hRet dX16_heights_149
  · skip
    refine tm_aload_n X 0 dX16_heights_13 rfl rfl ?_
    refine tm_cl1 (fun r7 e6 => ?_)
    refine tm_callUi (As := []) (rest := []) (q0 := (35 + tt.2.2.length + 0)) X (ctX15_place_80 l D ad ac dA tt h5 r7 e6) rfl (lw_U q658 q659 q661 q662 q138 q663) cyX15_place rfl (Classical.choose_spec (obXC_80 ad ac dA tt h5)) rfl ⟨(Nat.le_of_ble_eq_true rfl), (Nat.le_of_ble_eq_true rfl)⟩ (Nat.le_of_ble_eq_true rfl) dX16_heights_14 ⟨Nat.le_of_ble_eq_true rfl, Nat.le_of_ble_eq_true rfl⟩ rfl ?_
    refine tm_istore X [(5, .int r7), (0, .ref (ac 80)), (1, .int x1), (2, .int x2), (3, .int x3_3), (4, .int x4_4)] dX16_heights_17 (Nat.le_of_ble_eq_true rfl) rfl ?_
    refine tm_aload_n X 1 dX16_heights_19 rfl rfl ?_
    refine tm_bipush X (56 : Int32) dX16_heights_20 (by decide) ?_
    refine tm_cl2 (fun r9 h10 e8 => ?_)
    refine tm_callUi (As := [.int (56 : Int32)]) (rest := []) (q0 := (35 + tt.2.2.length + 0)) X (ctX15_times_80 l D ad ac dA tt h5 (56 : Int32) r9 h10 e8) rfl (lw_U q696 q697 q699 q700 q138 q701) cyX15_times rfl (Classical.choose_spec (obXC_80 ad ac dA tt h5)) rfl ⟨(Nat.le_of_ble_eq_true rfl), (Nat.le_of_ble_eq_true rfl)⟩ (Nat.le_of_ble_eq_true rfl) dX16_heights_22 ⟨Nat.le_of_ble_eq_true rfl, Nat.le_of_ble_eq_true rfl⟩ rfl ?_
    refine tm_istore X [(6, .int r9), (5, .int r7), (0, .ref (ac 80)), (1, .int x1), (2, .int x2), (3, .int x3_3), (4, .int x4_4)] dX16_heights_25 (Nat.le_of_ble_eq_true rfl) rfl ?_
    refine tm_aload_n X 2 dX16_heights_27 rfl rfl ?_
    refine tm_bipush X (97 : Int32) dX16_heights_28 (by decide) ?_
    refine tm_bipush X (122 : Int32) dX16_heights_30 (by decide) ?_
    refine tm_cl1 (fun r12 e11 => ?_)
    refine tm_callUi (As := [.int (97 : Int32), .int (122 : Int32)]) (rest := []) (q0 := (35 + tt.2.2.length + 0)) X (ctX15_sees_80 l D ad ac dA tt h10 (97 : Int32) (122 : Int32) r12 e11) rfl (lw_U q708 q709 q711 q703 q138 q707) cyX15_sees rfl (Classical.choose_spec (obXC_80 ad ac dA tt h10)) rfl ⟨(Nat.le_of_ble_eq_true rfl), (Nat.le_of_ble_eq_true rfl)⟩ (Nat.le_of_ble_eq_true rfl) dX16_heights_32 ⟨Nat.le_of_ble_eq_true rfl, Nat.le_of_ble_eq_true rfl⟩ rfl ?_
    refine tm_let (fun k => ∀ (h13 : Hp), TM G h' (k h13) (wXC ad ac dA tt h13) 0 0 66 [(0, .ref (ac 80)), (1, .int x1), (2, .int x2), (3, .int x3_3), (6, .int r9)] []) ?_ (fun k66 hk66 => ?_)
    · intro h13
      refine tm_iconst X (0 : Int32) dX16_heights_66 (by decide) ?_
      refine tm_istore X [(7, .int (0 : Int32)), (0, .ref (ac 80)), (1, .int x1), (2, .int x2), (3, .int x3_3), (6, .int r9)] dX16_heights_67 (Nat.le_of_ble_eq_true rfl) rfl ?_
      refine tm_lv X [1, 2, 3, 4, 5, 0] rfl ?_
      refine fx_P (fun (k : Int32 → Int32 → Hp → Option (Hp)) => ∀ (x3_14 : Int32) (x7_15 : Int32) (h16 : Hp), TM G h' (k x3_14 x7_15 h16) (wXC ad ac dA tt h16) 0 0 69 [(0, .ref (ac 80)), (1, .int x1), (2, .int x2), (3, .int x3_14), (6, .int r9), (7, .int x7_15)] []) (fun _ _ _ => tm_none) (fun k69 hk69 x3_14 x7_15 h16 => ?_) FU x3_3 (0 : Int32) h13
      refine tm_iload X 5 dX16_heights_69 rfl ?_
      refine tm_iload X 4 dX16_heights_71 rfl ?_
      refine tm_let (fun k => TM G h' k (wXC ad ac dA tt h16) 0 0 112 [(0, .ref (ac 80)), (1, .int x1), (2, .int x2), (3, .int x3_14)] []) ?_ (fun k112 hk112 => ?_)
      · skip
        refine tm_aload_n X 0 dX16_heights_112 rfl rfl ?_
        refine tm_cl1 (fun h18 e17 => ?_)
        refine tm_callUv (As := []) (rest := []) (q0 := (35 + tt.2.2.length + 0)) X (ctX15_goesOn_80 l D ad ac dA tt h16 h18 e17) rfl (lw_U q670 q671 q673 q674 q138 q675) cyX15_goesOn rfl (Classical.choose_spec (obXC_80 ad ac dA tt h16)) rfl ⟨(Nat.le_of_ble_eq_true rfl), (Nat.le_of_ble_eq_true rfl)⟩ (Nat.le_of_ble_eq_true rfl) dX16_heights_113 ⟨Nat.le_of_ble_eq_true rfl, Nat.le_of_ble_eq_true rfl⟩ rfl ?_
        refine tm_aload_n X 0 dX16_heights_116 rfl rfl ?_
        refine tm_cl1 (fun r20 e19 => ?_)
        refine tm_callUi (As := []) (rest := []) (q0 := (35 + tt.2.2.length + 0)) X (ctX15_isGood_80 l D ad ac dA tt h18 r20 e19) rfl (lw_U q676 q677 q679 q680 q138 q681) cyX15_isGood rfl (Classical.choose_spec (obXC_80 ad ac dA tt h18)) rfl ⟨(Nat.le_of_ble_eq_true rfl), (Nat.le_of_ble_eq_true rfl)⟩ (Nat.le_of_ble_eq_true rfl) dX16_heights_117 ⟨Nat.le_of_ble_eq_true rfl, Nat.le_of_ble_eq_true rfl⟩ rfl ?_
        refine tm_let (fun k => ∀ (s21 : Int32), TM G h' (k s21) (wXC ad ac dA tt h18) 0 0 144 [(0, .ref (ac 80)), (1, .int x1), (2, .int x2), (3, .int x3_14)] [.int s21]) ?_ (fun k144 hk144 => ?_)
        · intro s21
          refine tm_istore X [(4, .int s21), (0, .ref (ac 80)), (1, .int x1), (2, .int x2), (3, .int x3_14)] dX16_heights_144 (Nat.le_of_ble_eq_true rfl) rfl ?_
          refine tm_goto X 8 dX16_heights_146 rfl ?_
          refine tm_lv X [1, 2, 3, 4, 0] rfl ?_
          exact hk8 x3_14 s21 h18
        · skip
          refine tm_let (fun k => TM G h' k (wXC ad ac dA tt h18) 0 0 143 [(0, .ref (ac 80)), (1, .int x1), (2, .int x2), (3, .int x3_14)] []) ?_ (fun k143 hk143 => ?_)
          · skip
            refine tm_iconst X (0 : Int32) dX16_heights_143 (by decide) ?_
            exact hk144 (0 : Int32)
          · skip
            refine tm_if_eq X 143 dX16_heights_120 rfl ?_ ?_
            · skip
              exact hk143
            · skip
              refine tm_aload_n X 0 dX16_heights_123 rfl rfl ?_
              refine tm_cl1 (fun r23 e22 => ?_)
              refine tm_callUi (As := []) (rest := []) (q0 := (35 + tt.2.2.length + 0)) X (ctX15_isEnd_80 l D ad ac dA tt h18 r23 e22) rfl (lw_U q712 q713 q715 q716 q138 q717) cyX15_isEnd rfl (Classical.choose_spec (obXC_80 ad ac dA tt h18)) rfl ⟨(Nat.le_of_ble_eq_true rfl), (Nat.le_of_ble_eq_true rfl)⟩ (Nat.le_of_ble_eq_true rfl) dX16_heights_124 ⟨Nat.le_of_ble_eq_true rfl, Nat.le_of_ble_eq_true rfl⟩ rfl ?_
              refine tm_if_ne X 143 dX16_heights_127 rfl ?_ ?_
              · skip
                exact hk143
              · skip
                refine tm_aload_n X 0 dX16_heights_130 rfl rfl ?_
                refine tm_cl1 (fun r25 e24 => ?_)
                refine tm_callUi (As := []) (rest := []) (q0 := (35 + tt.2.2.length + 0)) X (ctX15_here_80 l D ad ac dA tt h18 r25 e24) rfl (lw_U q652 q653 q655 q656 q138 q657) cyX15_here rfl (Classical.choose_spec (obXC_80 ad ac dA tt h18)) rfl ⟨(Nat.le_of_ble_eq_true rfl), (Nat.le_of_ble_eq_true rfl)⟩ (Nat.le_of_ble_eq_true rfl) dX16_heights_131 ⟨Nat.le_of_ble_eq_true rfl, Nat.le_of_ble_eq_true rfl⟩ rfl ?_
                refine tm_bipush X (59 : Int32) dX16_heights_134 (by decide) ?_
                refine tm_ic_eq X 143 dX16_heights_136 rfl ?_ ?_
                · skip
                  exact hk143
                · skip
                  refine tm_iconst X (1 : Int32) dX16_heights_139 (by decide) ?_
                  refine tm_goto X 144 dX16_heights_140 rfl ?_
                  exact hk144 (1 : Int32)
      · skip
        refine tm_ic_ge X 112 dX16_heights_73 rfl ?_ ?_
        · skip
          refine tm_lv X [0, 1, 2, 3] rfl ?_
          exact hk112
        · skip
          refine tm_aload_n X 0 dX16_heights_76 rfl rfl ?_
          refine tm_cl1 (fun r27 e26 => ?_)
          refine tm_callUi (As := []) (rest := []) (q0 := (35 + tt.2.2.length + 0)) X (ctX15_isGood_80 l D ad ac dA tt h16 r27 e26) rfl (lw_U q676 q677 q679 q680 q138 q681) cyX15_isGood rfl (Classical.choose_spec (obXC_80 ad ac dA tt h16)) rfl ⟨(Nat.le_of_ble_eq_true rfl), (Nat.le_of_ble_eq_true rfl)⟩ (Nat.le_of_ble_eq_true rfl) dX16_heights_77 ⟨Nat.le_of_ble_eq_true rfl, Nat.le_of_ble_eq_true rfl⟩ rfl ?_
          refine tm_if_eq X 112 dX16_heights_80 rfl ?_ ?_
          · skip
            refine tm_lv X [0, 1, 2, 3] rfl ?_
            exact hk112
          · skip
            refine tm_aload_n X 0 dX16_heights_83 rfl rfl ?_
            refine tm_getR X (frXC_80_5 ad ac dA tt h16) in_X16 rfl (Nat.le_of_ble_eq_true rfl) q615 rfl dX16_heights_84 ?_
            refine tm_iload_n X 1 dX16_heights_87 rfl rfl ?_
            refine tm_aaloadX X (aaXC_81 ad ac dA tt h16) dX16_heights_88 (fun hb28 => ?_)
            refine tm_bipush X (8 : Int32) dX16_heights_89 (by decide) ?_
            refine tm_iload_n X 2 dX16_heights_91 rfl rfl ?_
            refine tm_imul X dX16_heights_92 ?_
            refine tm_iload_n X 3 dX16_heights_93 rfl rfl ?_
            refine tm_iadd X dX16_heights_94 ?_
            refine tm_aload_n X 0 dX16_heights_95 rfl rfl ?_
            refine tm_cl1 (fun r30 e29 => ?_)
            refine tm_callUi (As := []) (rest := [.int (((8 : Int32) * x2) + x3_14), .ref (ac (82 + x1.toNatClampNeg))]) (q0 := (35 + tt.2.2.length + 0)) X (ctX15_here_80 l D ad ac dA tt h16 r30 e29) rfl (lw_U q652 q653 q655 q656 q138 q657) cyX15_here rfl (Classical.choose_spec (obXC_80 ad ac dA tt h16)) rfl ⟨(Nat.le_of_ble_eq_true rfl), (Nat.le_of_ble_eq_true rfl)⟩ (Nat.le_of_ble_eq_true rfl) dX16_heights_96 ⟨Nat.le_of_ble_eq_true rfl, Nat.le_of_ble_eq_true rfl⟩ rfl ?_
            refine tm_bipush X (97 : Int32) dX16_heights_99 (by decide) ?_
            refine tm_isub X dX16_heights_101 ?_
            refine tm_iastore X (ar2XC_82 ad ac dA tt _ hb28) dX16_heights_102 (fun h31 => ?_)
            refine tm_iinc (v := (1 : Int32)) X 3 [(3, .int (x3_14 + (1 : Int32))), (0, .ref (ac 80)), (1, .int x1), (2, .int x2), (6, .int r9), (7, .int x7_15)] dX16_heights_103 rfl (by decide) (Nat.le_of_ble_eq_true rfl) rfl ?_
            refine tm_iinc (v := (1 : Int32)) X 5 [(7, .int (x7_15 + (1 : Int32))), (3, .int (x3_14 + (1 : Int32))), (0, .ref (ac 80)), (1, .int x1), (2, .int x2), (6, .int r9)] dX16_heights_106 rfl (by decide) (Nat.le_of_ble_eq_true rfl) rfl ?_
            refine tm_goto X 69 dX16_heights_109 rfl ?_
            refine tm_lv X [2, 3, 4, 1, 5, 0] rfl ?_
            exact hk69 (x3_14 + (1 : Int32)) (x7_15 + (1 : Int32)) h31
    · skip
      refine tm_if_ne X 50 dX16_heights_35 rfl ?_ ?_
      · skip
        refine tm_iload_n X 5 dX16_heights_50 rfl rfl ?_
        refine tm_iload X 0 dX16_heights_51 rfl ?_
        refine tm_iadd X dX16_heights_53 ?_
        refine tm_bipush X (8 : Int32) dX16_heights_54 (by decide) ?_
        refine tm_ic_le X 66 dX16_heights_56 rfl ?_ ?_
        · skip
          refine tm_lv X [2, 3, 4, 5, 0] rfl ?_
          exact hk66 h10
        · skip
          refine tm_aload_n X 2 dX16_heights_59 rfl rfl ?_
          refine tm_iconst X (4 : Int32) dX16_heights_60 (by decide) ?_
          refine tm_iload X 1 dX16_heights_61 rfl ?_
          refine tm_cl1 (fun h33 e32 => ?_)
          refine tm_callUv (As := [.int (4 : Int32), .int r7]) (rest := []) (q0 := (35 + tt.2.2.length + 0)) X (ctX15_bad_80 l D ad ac dA tt h10 (4 : Int32) r7 h33 e32) rfl (lw_U q664 q665 q667 q668 q138 q669) cyX15_bad rfl (Classical.choose_spec (obXC_80 ad ac dA tt h10)) rfl ⟨(Nat.le_of_ble_eq_true rfl), (Nat.le_of_ble_eq_true rfl)⟩ (Nat.le_of_ble_eq_true rfl) dX16_heights_63 ⟨Nat.le_of_ble_eq_true rfl, Nat.le_of_ble_eq_true rfl⟩ rfl ?_
          refine tm_lv X [2, 3, 4, 5, 0] rfl ?_
          exact hk66 h33
      · skip
        refine tm_aload_n X 2 dX16_heights_38 rfl rfl ?_
        refine tm_iconst X (1 : Int32) dX16_heights_39 (by decide) ?_
        refine tm_aload_n X 2 dX16_heights_40 rfl rfl ?_
        refine tm_cl1 (fun r35 e34 => ?_)
        refine tm_callUi (As := []) (rest := [.int (1 : Int32), .ref (ac 80)]) (q0 := (35 + tt.2.2.length + 0)) X (ctX15_place_80 l D ad ac dA tt h10 r35 e34) rfl (lw_U q658 q659 q661 q662 q138 q663) cyX15_place rfl (Classical.choose_spec (obXC_80 ad ac dA tt h10)) rfl ⟨(Nat.le_of_ble_eq_true rfl), (Nat.le_of_ble_eq_true rfl)⟩ (Nat.le_of_ble_eq_true rfl) dX16_heights_41 ⟨Nat.le_of_ble_eq_true rfl, Nat.le_of_ble_eq_true rfl⟩ rfl ?_
        refine tm_cl1 (fun h37 e36 => ?_)
        refine tm_callUv (As := [.int (1 : Int32), .int r35]) (rest := []) (q0 := (35 + tt.2.2.length + 0)) X (ctX15_bad_80 l D ad ac dA tt h10 (1 : Int32) r35 h37 e36) rfl (lw_U q664 q665 q667 q668 q138 q669) cyX15_bad rfl (Classical.choose_spec (obXC_80 ad ac dA tt h10)) rfl ⟨(Nat.le_of_ble_eq_true rfl), (Nat.le_of_ble_eq_true rfl)⟩ (Nat.le_of_ble_eq_true rfl) dX16_heights_44 ⟨Nat.le_of_ble_eq_true rfl, Nat.le_of_ble_eq_true rfl⟩ rfl ?_
        refine tm_goto X 66 dX16_heights_47 rfl ?_
        refine tm_lv X [2, 3, 4, 5, 0] rfl ?_
        exact hk66 h37
def mX16_line (h : Hp)  : Option (Hp) :=
cl1 (mX15_here 80 h) (fun r2 =>
nm (fun (s3 : Int32) =>
cl1 (mX15_here 80 h) (fun r5 =>
nm (fun (h6 : Hp) =>
cl1 (mX15_goesOn 80 h6) (fun h8 =>
cl1 (mX15_here 80 h8) (fun r10 =>
nm ((r10 - (48 : Int32))) (fun v11 =>
cl1 (mX15_isGood 80 h8) (fun r13 =>
nm (fun (h14 : Hp) =>
cl1 (mX15_isGood 80 h14) (fun r16 =>
nm (fun (h17 : Hp) =>
cl1 (mX15_goesOn 80 h17) (fun h19 =>
cl1 (mX15_must 80 h19 (61 : Int32)) (fun h21 =>
cl1 (mX15_isGood 80 h21) (fun r23 =>
if r23 = 0 then (
some h21) else (
nm (u2 h21 80 6 ((h21 80 6) ||| ((1 : Int32) <<< ((((6 : Int32) * s3) + v11) &&& 31)))) (fun h24 =>
cl1 (mX16_heights h24 s3 v11) (fun h26 =>
nm (u2 h26 80 7 ((h26 80 7) + (1 : Int32))) (fun h27 =>
some h27)))))))) (fun k113 =>
if r16 = 0 then (
k113 h14) else (
if (((h14 80 6) >>> ((((6 : Int32) * s3) + v11) &&& 31)) &&& (1 : Int32)) = (1 : Int32) then (
cl1 (mX15_place 80 h14) (fun r29 =>
cl1 (mX15_bad 80 h14 (6 : Int32) r29) (fun h31 =>
k113 h31))) else (
k113 h14))))) (fun k79 =>
if r13 = 0 then (
k79 h8) else (
cl1 (mX0_in v11 (6 : Int32)) (fun r32 =>
if r32 = 0 then (
cl1 (mX15_place 80 h8) (fun r35 =>
cl1 (mX15_bad 80 h8 (1 : Int32) r35) (fun h37 =>
k79 h37))) else (
k79 h8))))))))) (fun k42 =>
if r5 = (85 : Int32) then (
k42 h) else (
cl1 (mX15_here 80 h) (fun r39 =>
if r39 = (76 : Int32) then (
k42 h) else (
cl1 (mX15_place 80 h) (fun r41 =>
cl1 (mX15_bad 80 h (1 : Int32) r41) (fun h43 =>
k42 h43)))))))) (fun k14 =>
if r2 = (85 : Int32) then (
k14 (1 : Int32)) else (
k14 (0 : Int32))))
theorem cyX16_line : Callee yX16_line 0 := by unfold Callee; decide +kernel
set_option maxHeartbeats 4000000 in
theorem ctX16_line (l : Launch) (D : va_G) (ad ac : Nat → Nat) (dA : Nat → ClassId) (tt : (Nat → Option Nat) × (Nat → Option Nat) × va_W) (h : Hp)  (h' : Hp) (hm : mX16_line h = some h') : CT l yX16_line cX16_line 3 none D dA 4 91 0 0 (wXC ad ac dA tt h) [.ref (ac 80)] none (wXC ad ac dA tt h') := by
  refine ct_open (by decide) (Nat.le_of_ble_eq_true rfl) ?_
  intro G X hI hZ hV hR
  have hRet := hV rfl rfl
  refine (show TM G h' (mX16_line h) (wXC ad ac dA tt h) 0 0 0 [(0, .ref (ac 80))] [] from ?_) hm
  clear hm hI hZ hV hR
  unfold mX16_line
  refine tm_aload_n X 0 dX16_line_0 rfl rfl ?_
  refine tm_cl1 (fun r2 e1 => ?_)
  refine tm_callUi (As := []) (rest := []) (q0 := (35 + tt.2.2.length + 0)) X (ctX15_here_80 l D ad ac dA tt h r2 e1) rfl (lw_U q652 q653 q655 q656 q138 q657) cyX15_here rfl (Classical.choose_spec (obXC_80 ad ac dA tt h)) rfl ⟨(Nat.le_of_ble_eq_true rfl), (Nat.le_of_ble_eq_true rfl)⟩ (Nat.le_of_ble_eq_true rfl) dX16_line_1 ⟨Nat.le_of_ble_eq_true rfl, Nat.le_of_ble_eq_true rfl⟩ rfl ?_
  refine tm_bipush X (85 : Int32) dX16_line_4 (by decide) ?_
  refine tm_let (fun k => ∀ (s3 : Int32), TM G h' (k s3) (wXC ad ac dA tt h) 0 0 14 [(0, .ref (ac 80))] [.int s3]) ?_ (fun k14 hk14 => ?_)
  · intro s3
    refine tm_istore_n X [(1, .int s3), (0, .ref (ac 80))] dX16_line_14 rfl (Nat.le_of_ble_eq_true rfl) rfl ?_
    refine tm_aload_n X 1 dX16_line_15 rfl rfl ?_
    refine tm_cl1 (fun r5 e4 => ?_)
    refine tm_callUi (As := []) (rest := []) (q0 := (35 + tt.2.2.length + 0)) X (ctX15_here_80 l D ad ac dA tt h r5 e4) rfl (lw_U q652 q653 q655 q656 q138 q657) cyX15_here rfl (Classical.choose_spec (obXC_80 ad ac dA tt h)) rfl ⟨(Nat.le_of_ble_eq_true rfl), (Nat.le_of_ble_eq_true rfl)⟩ (Nat.le_of_ble_eq_true rfl) dX16_line_16 ⟨Nat.le_of_ble_eq_true rfl, Nat.le_of_ble_eq_true rfl⟩ rfl ?_
    refine tm_bipush X (85 : Int32) dX16_line_19 (by decide) ?_
    refine tm_let (fun k => ∀ (h6 : Hp), TM G h' (k h6) (wXC ad ac dA tt h6) 0 0 42 [(0, .ref (ac 80)), (1, .int s3)] []) ?_ (fun k42 hk42 => ?_)
    · intro h6
      refine tm_aload_n X 0 dX16_line_42 rfl rfl ?_
      refine tm_cl1 (fun h8 e7 => ?_)
      refine tm_callUv (As := []) (rest := []) (q0 := (35 + tt.2.2.length + 0)) X (ctX15_goesOn_80 l D ad ac dA tt h6 h8 e7) rfl (lw_U q670 q671 q673 q674 q138 q675) cyX15_goesOn rfl (Classical.choose_spec (obXC_80 ad ac dA tt h6)) rfl ⟨(Nat.le_of_ble_eq_true rfl), (Nat.le_of_ble_eq_true rfl)⟩ (Nat.le_of_ble_eq_true rfl) dX16_line_43 ⟨Nat.le_of_ble_eq_true rfl, Nat.le_of_ble_eq_true rfl⟩ rfl ?_
      refine tm_aload_n X 0 dX16_line_46 rfl rfl ?_
      refine tm_cl1 (fun r10 e9 => ?_)
      refine tm_callUi (As := []) (rest := []) (q0 := (35 + tt.2.2.length + 0)) X (ctX15_here_80 l D ad ac dA tt h8 r10 e9) rfl (lw_U q652 q653 q655 q656 q138 q657) cyX15_here rfl (Classical.choose_spec (obXC_80 ad ac dA tt h8)) rfl ⟨(Nat.le_of_ble_eq_true rfl), (Nat.le_of_ble_eq_true rfl)⟩ (Nat.le_of_ble_eq_true rfl) dX16_line_47 ⟨Nat.le_of_ble_eq_true rfl, Nat.le_of_ble_eq_true rfl⟩ rfl ?_
      refine tm_bipush X (48 : Int32) dX16_line_50 (by decide) ?_
      refine tm_isub X dX16_line_52 ?_
      refine tm_nmI (fun v11 => ?_)
      refine tm_istore_n X [(2, .int v11), (0, .ref (ac 80)), (1, .int s3)] dX16_line_53 rfl (Nat.le_of_ble_eq_true rfl) rfl ?_
      refine tm_aload_n X 1 dX16_line_54 rfl rfl ?_
      refine tm_cl1 (fun r13 e12 => ?_)
      refine tm_callUi (As := []) (rest := []) (q0 := (35 + tt.2.2.length + 0)) X (ctX15_isGood_80 l D ad ac dA tt h8 r13 e12) rfl (lw_U q676 q677 q679 q680 q138 q681) cyX15_isGood rfl (Classical.choose_spec (obXC_80 ad ac dA tt h8)) rfl ⟨(Nat.le_of_ble_eq_true rfl), (Nat.le_of_ble_eq_true rfl)⟩ (Nat.le_of_ble_eq_true rfl) dX16_line_55 ⟨Nat.le_of_ble_eq_true rfl, Nat.le_of_ble_eq_true rfl⟩ rfl ?_
      refine tm_let (fun k => ∀ (h14 : Hp), TM G h' (k h14) (wXC ad ac dA tt h14) 0 0 79 [(0, .ref (ac 80)), (1, .int s3), (2, .int v11)] []) ?_ (fun k79 hk79 => ?_)
      · intro h14
        refine tm_aload_n X 0 dX16_line_79 rfl rfl ?_
        refine tm_cl1 (fun r16 e15 => ?_)
        refine tm_callUi (As := []) (rest := []) (q0 := (35 + tt.2.2.length + 0)) X (ctX15_isGood_80 l D ad ac dA tt h14 r16 e15) rfl (lw_U q676 q677 q679 q680 q138 q681) cyX15_isGood rfl (Classical.choose_spec (obXC_80 ad ac dA tt h14)) rfl ⟨(Nat.le_of_ble_eq_true rfl), (Nat.le_of_ble_eq_true rfl)⟩ (Nat.le_of_ble_eq_true rfl) dX16_line_80 ⟨Nat.le_of_ble_eq_true rfl, Nat.le_of_ble_eq_true rfl⟩ rfl ?_
        refine tm_let (fun k => ∀ (h17 : Hp), TM G h' (k h17) (wXC ad ac dA tt h17) 0 0 113 [(0, .ref (ac 80)), (1, .int s3), (2, .int v11)] []) ?_ (fun k113 hk113 => ?_)
        · intro h17
          refine tm_aload_n X 0 dX16_line_113 rfl rfl ?_
          refine tm_cl1 (fun h19 e18 => ?_)
          refine tm_callUv (As := []) (rest := []) (q0 := (35 + tt.2.2.length + 0)) X (ctX15_goesOn_80 l D ad ac dA tt h17 h19 e18) rfl (lw_U q670 q671 q673 q674 q138 q675) cyX15_goesOn rfl (Classical.choose_spec (obXC_80 ad ac dA tt h17)) rfl ⟨(Nat.le_of_ble_eq_true rfl), (Nat.le_of_ble_eq_true rfl)⟩ (Nat.le_of_ble_eq_true rfl) dX16_line_114 ⟨Nat.le_of_ble_eq_true rfl, Nat.le_of_ble_eq_true rfl⟩ rfl ?_
          refine tm_aload_n X 0 dX16_line_117 rfl rfl ?_
          refine tm_bipush X (61 : Int32) dX16_line_118 (by decide) ?_
          refine tm_cl1 (fun h21 e20 => ?_)
          refine tm_callUv (As := [.int (61 : Int32)]) (rest := []) (q0 := (35 + tt.2.2.length + 0)) X (ctX15_must_80 l D ad ac dA tt h19 (61 : Int32) h21 e20) rfl (lw_U q683 q684 q686 q687 q138 q688) cyX15_must rfl (Classical.choose_spec (obXC_80 ad ac dA tt h19)) rfl ⟨(Nat.le_of_ble_eq_true rfl), (Nat.le_of_ble_eq_true rfl)⟩ (Nat.le_of_ble_eq_true rfl) dX16_line_120 ⟨Nat.le_of_ble_eq_true rfl, Nat.le_of_ble_eq_true rfl⟩ rfl ?_
          refine tm_aload_n X 0 dX16_line_123 rfl rfl ?_
          refine tm_cl1 (fun r23 e22 => ?_)
          refine tm_callUi (As := []) (rest := []) (q0 := (35 + tt.2.2.length + 0)) X (ctX15_isGood_80 l D ad ac dA tt h21 r23 e22) rfl (lw_U q676 q677 q679 q680 q138 q681) cyX15_isGood rfl (Classical.choose_spec (obXC_80 ad ac dA tt h21)) rfl ⟨(Nat.le_of_ble_eq_true rfl), (Nat.le_of_ble_eq_true rfl)⟩ (Nat.le_of_ble_eq_true rfl) dX16_line_124 ⟨Nat.le_of_ble_eq_true rfl, Nat.le_of_ble_eq_true rfl⟩ rfl ?_
          refine tm_if_ne X 131 dX16_line_127 rfl ?_ ?_
          · skip
            refine tm_aload_n X 0 dX16_line_131 rfl rfl ?_
            refine tm_dup X dX16_line_132 rfl ?_
            refine tm_getI X (fiXC_80_6 ad ac dA tt) in_X16 rfl (Nat.le_of_ble_eq_true rfl) q617 rfl dX16_line_133 ?_
            refine tm_iconst X (1 : Int32) dX16_line_136 (by decide) ?_
            refine tm_bipush X (6 : Int32) dX16_line_137 (by decide) ?_
            refine tm_iload_n X 1 dX16_line_139 rfl rfl ?_
            refine tm_imul X dX16_line_140 ?_
            refine tm_iload_n X 2 dX16_line_141 rfl rfl ?_
            refine tm_iadd X dX16_line_142 ?_
            refine tm_ishl X dX16_line_143 ?_
            refine tm_ior X dX16_line_144 ?_
            refine tm_putIA X (fiXC_80_6 ad ac dA tt) in_X16 rfl (Nat.le_of_ble_eq_true rfl) (apart16 D dA) rfl rfl q617 rfl dX16_line_145 (fun h24 => ?_)
            refine tm_aload_n X 0 dX16_line_148 rfl rfl ?_
            refine tm_iload_n X 1 dX16_line_149 rfl rfl ?_
            refine tm_iload_n X 2 dX16_line_150 rfl rfl ?_
            refine tm_cl1 (fun h26 e25 => ?_)
            refine tm_callVv (As := [.int s3, .int v11]) (rest := []) (q0 := (35 + tt.2.2.length + 0)) X (ctX16_heights l D ad ac dA tt h24 s3 v11 h26 e25) (lw_V q692 q694 qs16 q139 q695) cyX16_heights rfl (Classical.choose_spec (obXC_80 ad ac dA tt h24)) rfl ⟨(Nat.le_of_ble_eq_true rfl), (Nat.le_of_ble_eq_true rfl)⟩ (Nat.le_of_ble_eq_true rfl) dX16_line_151 ⟨Nat.le_of_ble_eq_true rfl, Nat.le_of_ble_eq_true rfl⟩ rfl ?_
            refine tm_aload_n X 0 dX16_line_154 rfl rfl ?_
            refine tm_dup X dX16_line_155 rfl ?_
            refine tm_getI X (fiXC_80_7 ad ac dA tt) in_X16 rfl (Nat.le_of_ble_eq_true rfl) q618 rfl dX16_line_156 ?_
            refine tm_iconst X (1 : Int32) dX16_line_159 (by decide) ?_
            refine tm_iadd X dX16_line_160 ?_
            refine tm_putIA X (fiXC_80_7 ad ac dA tt) in_X16 rfl (Nat.le_of_ble_eq_true rfl) (apart16 D dA) rfl rfl q618 rfl dX16_line_161 (fun h27 => ?_)
            exact tm_retV (wf := wXC ad ac dA tt) hRet dX16_line_164
          · skip
            exact tm_retV (wf := wXC ad ac dA tt) hRet dX16_line_130
        · skip
          refine tm_if_eq X 113 dX16_line_83 rfl ?_ ?_
          · skip
            exact hk113 h14
          · skip
            refine tm_aload_n X 0 dX16_line_86 rfl rfl ?_
            refine tm_getI X (fiXC_80_6 ad ac dA tt) in_X16 rfl (Nat.le_of_ble_eq_true rfl) q617 rfl dX16_line_87 ?_
            refine tm_bipush X (6 : Int32) dX16_line_90 (by decide) ?_
            refine tm_iload_n X 1 dX16_line_92 rfl rfl ?_
            refine tm_imul X dX16_line_93 ?_
            refine tm_iload_n X 2 dX16_line_94 rfl rfl ?_
            refine tm_iadd X dX16_line_95 ?_
            refine tm_ishr X dX16_line_96 ?_
            refine tm_iconst X (1 : Int32) dX16_line_97 (by decide) ?_
            refine tm_iand X dX16_line_98 ?_
            refine tm_iconst X (1 : Int32) dX16_line_99 (by decide) ?_
            refine tm_ic_ne X 113 dX16_line_100 rfl ?_ ?_
            · skip
              exact hk113 h14
            · skip
              refine tm_aload_n X 0 dX16_line_103 rfl rfl ?_
              refine tm_bipush X (6 : Int32) dX16_line_104 (by decide) ?_
              refine tm_aload_n X 0 dX16_line_106 rfl rfl ?_
              refine tm_cl1 (fun r29 e28 => ?_)
              refine tm_callUi (As := []) (rest := [.int (6 : Int32), .ref (ac 80)]) (q0 := (35 + tt.2.2.length + 0)) X (ctX15_place_80 l D ad ac dA tt h14 r29 e28) rfl (lw_U q658 q659 q661 q662 q138 q663) cyX15_place rfl (Classical.choose_spec (obXC_80 ad ac dA tt h14)) rfl ⟨(Nat.le_of_ble_eq_true rfl), (Nat.le_of_ble_eq_true rfl)⟩ (Nat.le_of_ble_eq_true rfl) dX16_line_107 ⟨Nat.le_of_ble_eq_true rfl, Nat.le_of_ble_eq_true rfl⟩ rfl ?_
              refine tm_cl1 (fun h31 e30 => ?_)
              refine tm_callUv (As := [.int (6 : Int32), .int r29]) (rest := []) (q0 := (35 + tt.2.2.length + 0)) X (ctX15_bad_80 l D ad ac dA tt h14 (6 : Int32) r29 h31 e30) rfl (lw_U q664 q665 q667 q668 q138 q669) cyX15_bad rfl (Classical.choose_spec (obXC_80 ad ac dA tt h14)) rfl ⟨(Nat.le_of_ble_eq_true rfl), (Nat.le_of_ble_eq_true rfl)⟩ (Nat.le_of_ble_eq_true rfl) dX16_line_110 ⟨Nat.le_of_ble_eq_true rfl, Nat.le_of_ble_eq_true rfl⟩ rfl ?_
              exact hk113 h31
      · skip
        refine tm_if_eq X 79 dX16_line_58 rfl ?_ ?_
        · skip
          refine tm_lv X [1, 2, 0] rfl ?_
          exact hk79 h8
        · skip
          refine tm_iload_n X 0 dX16_line_61 rfl rfl ?_
          refine tm_bipush X (6 : Int32) dX16_line_62 (by decide) ?_
          refine tm_cl1 (fun r32 e33 => ?_)
          refine tm_callSNi (As := [.int v11, .int (6 : Int32)]) (rest := []) X (ctX0_in l D dA v11 (6 : Int32) r32 e33) q682 q312 q117 q313 cyX0_in rfl ⟨(Nat.le_of_ble_eq_true rfl), (Nat.le_of_ble_eq_true rfl)⟩ (Nat.le_of_ble_eq_true rfl) dX16_line_64 ⟨Nat.le_of_ble_eq_true rfl, Nat.le_of_ble_eq_true rfl⟩ rfl ?_
          refine tm_if_ne X 79 dX16_line_67 rfl ?_ ?_
          · skip
            refine tm_lv X [1, 2, 0] rfl ?_
            exact hk79 h8
          · skip
            refine tm_aload_n X 1 dX16_line_70 rfl rfl ?_
            refine tm_iconst X (1 : Int32) dX16_line_71 (by decide) ?_
            refine tm_aload_n X 1 dX16_line_72 rfl rfl ?_
            refine tm_cl1 (fun r35 e34 => ?_)
            refine tm_callUi (As := []) (rest := [.int (1 : Int32), .ref (ac 80)]) (q0 := (35 + tt.2.2.length + 0)) X (ctX15_place_80 l D ad ac dA tt h8 r35 e34) rfl (lw_U q658 q659 q661 q662 q138 q663) cyX15_place rfl (Classical.choose_spec (obXC_80 ad ac dA tt h8)) rfl ⟨(Nat.le_of_ble_eq_true rfl), (Nat.le_of_ble_eq_true rfl)⟩ (Nat.le_of_ble_eq_true rfl) dX16_line_73 ⟨Nat.le_of_ble_eq_true rfl, Nat.le_of_ble_eq_true rfl⟩ rfl ?_
            refine tm_cl1 (fun h37 e36 => ?_)
            refine tm_callUv (As := [.int (1 : Int32), .int r35]) (rest := []) (q0 := (35 + tt.2.2.length + 0)) X (ctX15_bad_80 l D ad ac dA tt h8 (1 : Int32) r35 h37 e36) rfl (lw_U q664 q665 q667 q668 q138 q669) cyX15_bad rfl (Classical.choose_spec (obXC_80 ad ac dA tt h8)) rfl ⟨(Nat.le_of_ble_eq_true rfl), (Nat.le_of_ble_eq_true rfl)⟩ (Nat.le_of_ble_eq_true rfl) dX16_line_76 ⟨Nat.le_of_ble_eq_true rfl, Nat.le_of_ble_eq_true rfl⟩ rfl ?_
            refine tm_lv X [1, 2, 0] rfl ?_
            exact hk79 h37
    · skip
      refine tm_ic_eq X 42 dX16_line_21 rfl ?_ ?_
      · skip
        refine tm_lv X [1, 0] rfl ?_
        exact hk42 h
      · skip
        refine tm_aload_n X 1 dX16_line_24 rfl rfl ?_
        refine tm_cl1 (fun r39 e38 => ?_)
        refine tm_callUi (As := []) (rest := []) (q0 := (35 + tt.2.2.length + 0)) X (ctX15_here_80 l D ad ac dA tt h r39 e38) rfl (lw_U q652 q653 q655 q656 q138 q657) cyX15_here rfl (Classical.choose_spec (obXC_80 ad ac dA tt h)) rfl ⟨(Nat.le_of_ble_eq_true rfl), (Nat.le_of_ble_eq_true rfl)⟩ (Nat.le_of_ble_eq_true rfl) dX16_line_25 ⟨Nat.le_of_ble_eq_true rfl, Nat.le_of_ble_eq_true rfl⟩ rfl ?_
        refine tm_bipush X (76 : Int32) dX16_line_28 (by decide) ?_
        refine tm_ic_eq X 42 dX16_line_30 rfl ?_ ?_
        · skip
          refine tm_lv X [1, 0] rfl ?_
          exact hk42 h
        · skip
          refine tm_aload_n X 1 dX16_line_33 rfl rfl ?_
          refine tm_iconst X (1 : Int32) dX16_line_34 (by decide) ?_
          refine tm_aload_n X 1 dX16_line_35 rfl rfl ?_
          refine tm_cl1 (fun r41 e40 => ?_)
          refine tm_callUi (As := []) (rest := [.int (1 : Int32), .ref (ac 80)]) (q0 := (35 + tt.2.2.length + 0)) X (ctX15_place_80 l D ad ac dA tt h r41 e40) rfl (lw_U q658 q659 q661 q662 q138 q663) cyX15_place rfl (Classical.choose_spec (obXC_80 ad ac dA tt h)) rfl ⟨(Nat.le_of_ble_eq_true rfl), (Nat.le_of_ble_eq_true rfl)⟩ (Nat.le_of_ble_eq_true rfl) dX16_line_36 ⟨Nat.le_of_ble_eq_true rfl, Nat.le_of_ble_eq_true rfl⟩ rfl ?_
          refine tm_cl1 (fun h43 e42 => ?_)
          refine tm_callUv (As := [.int (1 : Int32), .int r41]) (rest := []) (q0 := (35 + tt.2.2.length + 0)) X (ctX15_bad_80 l D ad ac dA tt h (1 : Int32) r41 h43 e42) rfl (lw_U q664 q665 q667 q668 q138 q669) cyX15_bad rfl (Classical.choose_spec (obXC_80 ad ac dA tt h)) rfl ⟨(Nat.le_of_ble_eq_true rfl), (Nat.le_of_ble_eq_true rfl)⟩ (Nat.le_of_ble_eq_true rfl) dX16_line_39 ⟨Nat.le_of_ble_eq_true rfl, Nat.le_of_ble_eq_true rfl⟩ rfl ?_
          refine tm_lv X [1, 0] rfl ?_
          exact hk42 h43
  · skip
    refine tm_ic_ne X 13 dX16_line_6 rfl ?_ ?_
    · skip
      refine tm_iconst X (0 : Int32) dX16_line_13 (by decide) ?_
      exact hk14 (0 : Int32)
    · skip
      refine tm_iconst X (1 : Int32) dX16_line_9 (by decide) ?_
      refine tm_goto X 14 dX16_line_10 rfl ?_
      exact hk14 (1 : Int32)
def mX16_read (h : Hp)  : Option (Int32 × Hp) :=
cl1 (mX16_line h) (fun h2 =>
fx FU (fun _ => none) (fun k4 (h3 : Hp) =>
cl1 (mX15_isGood 80 h3) (fun r5 =>
nm (
cl1 (mX15_answer 80 h3 (h3 80 7)) (fun r7 =>
some (r7, h3))) (fun k38 =>
if r5 = 0 then (
k38) else (
cl1 (mX15_isEnd 80 h3) (fun r9 =>
if r9 = 0 then (
cl1 (mX15_must 80 h3 (59 : Int32)) (fun h11 =>
cl1 (mX15_isGood 80 h11) (fun r13 =>
if r13 = 0 then (
k4 h11) else (
cl1 (mX16_line h11) (fun h15 =>
k4 h15))))) else (
k38)))))) h2)
theorem cyX16_read : Callee yX16_read 0 := by unfold Callee; decide +kernel
set_option maxHeartbeats 4000000 in
theorem ctX16_read (l : Launch) (D : va_G) (ad ac : Nat → Nat) (dA : Nat → ClassId) (tt : (Nat → Option Nat) × (Nat → Option Nat) × va_W) (h : Hp)  (r : Int32) (h' : Hp) (hm : mX16_read h = some (r, h')) : CT l yX16_read cX16_read 1 (some .int) D dA 5 113 0 0 (wXC ad ac dA tt h) [.ref (ac 80)] (some (.int r)) (wXC ad ac dA tt h') := by
  refine ct_open (by decide) (Nat.le_of_ble_eq_true rfl) ?_
  intro G X hI hZ hV hR
  have hRet := hI rfl r rfl
  refine (show TM G (r, h') (mX16_read h) (wXC ad ac dA tt h) 0 0 0 [(0, .ref (ac 80))] [] from ?_) hm
  clear hm hI hZ hV hR
  unfold mX16_read
  refine tm_aload_n X 0 dX16_read_0 rfl rfl ?_
  refine tm_cl1 (fun h2 e1 => ?_)
  refine tm_callVv (As := []) (rest := []) (q0 := (35 + tt.2.2.length + 0)) X (ctX16_line l D ad ac dA tt h h2 e1) (lw_V q648 q650 qs15 q139 q651) cyX16_line rfl (Classical.choose_spec (obXC_80 ad ac dA tt h)) rfl ⟨(Nat.le_of_ble_eq_true rfl), (Nat.le_of_ble_eq_true rfl)⟩ (Nat.le_of_ble_eq_true rfl) dX16_read_1 ⟨Nat.le_of_ble_eq_true rfl, Nat.le_of_ble_eq_true rfl⟩ rfl ?_
  refine fx_P (fun (k : Hp → Option (Int32 × Hp)) => ∀ (h3 : Hp), TM G (r, h') (k h3) (wXC ad ac dA tt h3) 0 0 4 [(0, .ref (ac 80))] []) (fun _ => tm_none) (fun k4 hk4 h3 => ?_) FU h2
  refine tm_aload_n X 0 dX16_read_4 rfl rfl ?_
  refine tm_cl1 (fun r5 e4 => ?_)
  refine tm_callUi (As := []) (rest := []) (q0 := (35 + tt.2.2.length + 0)) X (ctX15_isGood_80 l D ad ac dA tt h3 r5 e4) rfl (lw_U q676 q677 q679 q680 q138 q681) cyX15_isGood rfl (Classical.choose_spec (obXC_80 ad ac dA tt h3)) rfl ⟨(Nat.le_of_ble_eq_true rfl), (Nat.le_of_ble_eq_true rfl)⟩ (Nat.le_of_ble_eq_true rfl) dX16_read_5 ⟨Nat.le_of_ble_eq_true rfl, Nat.le_of_ble_eq_true rfl⟩ rfl ?_
  refine tm_let (fun k => TM G (r, h') k (wXC ad ac dA tt h3) 0 0 38 [(0, .ref (ac 80))] []) ?_ (fun k38 hk38 => ?_)
  · skip
    refine tm_aload_n X 0 dX16_read_38 rfl rfl ?_
    refine tm_aload_n X 0 dX16_read_39 rfl rfl ?_
    refine tm_getI X (fiXC_80_7 ad ac dA tt) in_X16 rfl (Nat.le_of_ble_eq_true rfl) q618 rfl dX16_read_40 ?_
    refine tm_cl1 (fun r7 e6 => ?_)
    refine tm_callUi (As := [.int (h3 80 7)]) (rest := []) (q0 := (35 + tt.2.2.length + 0)) X (ctX15_answer_80 l D ad ac dA tt h3 (h3 80 7) r7 e6) rfl (lw_U q718 q719 q721 q722 q138 q723) cyX15_answer rfl (Classical.choose_spec (obXC_80 ad ac dA tt h3)) rfl ⟨(Nat.le_of_ble_eq_true rfl), (Nat.le_of_ble_eq_true rfl)⟩ (Nat.le_of_ble_eq_true rfl) dX16_read_43 ⟨Nat.le_of_ble_eq_true rfl, Nat.le_of_ble_eq_true rfl⟩ rfl ?_
    exact tm_retIH (wf := wXC ad ac dA tt) hRet dX16_read_46
  · skip
    refine tm_if_eq X 38 dX16_read_8 rfl ?_ ?_
    · skip
      exact hk38
    · skip
      refine tm_aload_n X 0 dX16_read_11 rfl rfl ?_
      refine tm_cl1 (fun r9 e8 => ?_)
      refine tm_callUi (As := []) (rest := []) (q0 := (35 + tt.2.2.length + 0)) X (ctX15_isEnd_80 l D ad ac dA tt h3 r9 e8) rfl (lw_U q712 q713 q715 q716 q138 q717) cyX15_isEnd rfl (Classical.choose_spec (obXC_80 ad ac dA tt h3)) rfl ⟨(Nat.le_of_ble_eq_true rfl), (Nat.le_of_ble_eq_true rfl)⟩ (Nat.le_of_ble_eq_true rfl) dX16_read_12 ⟨Nat.le_of_ble_eq_true rfl, Nat.le_of_ble_eq_true rfl⟩ rfl ?_
      refine tm_if_ne X 38 dX16_read_15 rfl ?_ ?_
      · skip
        exact hk38
      · skip
        refine tm_aload_n X 0 dX16_read_18 rfl rfl ?_
        refine tm_bipush X (59 : Int32) dX16_read_19 (by decide) ?_
        refine tm_cl1 (fun h11 e10 => ?_)
        refine tm_callUv (As := [.int (59 : Int32)]) (rest := []) (q0 := (35 + tt.2.2.length + 0)) X (ctX15_must_80 l D ad ac dA tt h3 (59 : Int32) h11 e10) rfl (lw_U q683 q684 q686 q687 q138 q688) cyX15_must rfl (Classical.choose_spec (obXC_80 ad ac dA tt h3)) rfl ⟨(Nat.le_of_ble_eq_true rfl), (Nat.le_of_ble_eq_true rfl)⟩ (Nat.le_of_ble_eq_true rfl) dX16_read_21 ⟨Nat.le_of_ble_eq_true rfl, Nat.le_of_ble_eq_true rfl⟩ rfl ?_
        refine tm_aload_n X 0 dX16_read_24 rfl rfl ?_
        refine tm_cl1 (fun r13 e12 => ?_)
        refine tm_callUi (As := []) (rest := []) (q0 := (35 + tt.2.2.length + 0)) X (ctX15_isGood_80 l D ad ac dA tt h11 r13 e12) rfl (lw_U q676 q677 q679 q680 q138 q681) cyX15_isGood rfl (Classical.choose_spec (obXC_80 ad ac dA tt h11)) rfl ⟨(Nat.le_of_ble_eq_true rfl), (Nat.le_of_ble_eq_true rfl)⟩ (Nat.le_of_ble_eq_true rfl) dX16_read_25 ⟨Nat.le_of_ble_eq_true rfl, Nat.le_of_ble_eq_true rfl⟩ rfl ?_
        refine tm_if_eq X 4 dX16_read_28 rfl ?_ ?_
        · skip
          exact hk4 h11
        · skip
          refine tm_aload_n X 0 dX16_read_31 rfl rfl ?_
          refine tm_cl1 (fun h15 e14 => ?_)
          refine tm_callVv (As := []) (rest := []) (q0 := (35 + tt.2.2.length + 0)) X (ctX16_line l D ad ac dA tt h11 h15 e14) (lw_V q648 q650 qs15 q139 q651) cyX16_line rfl (Classical.choose_spec (obXC_80 ad ac dA tt h11)) rfl ⟨(Nat.le_of_ble_eq_true rfl), (Nat.le_of_ble_eq_true rfl)⟩ (Nat.le_of_ble_eq_true rfl) dX16_read_32 ⟨Nat.le_of_ble_eq_true rfl, Nat.le_of_ble_eq_true rfl⟩ rfl ?_
          refine tm_goto X 4 dX16_read_35 rfl ?_
          exact hk4 h15
