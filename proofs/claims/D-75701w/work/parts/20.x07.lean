set_option maxRecDepth 100000
def mX0_held (x0 : Int32) (x1 : Int32) : Option (Int32) :=
some (jmax (0 : Int32) (jmin x1 x0))
theorem cyX0_held : Callee yX0_held 2 := by unfold Callee; decide +kernel
set_option maxHeartbeats 4000000 in
theorem ctX0_held (l : Launch) (D : va_G) (dA : Nat → ClassId) (x0 : Int32) (x1 : Int32) (r : Int32) (hm : mX0_held x0 x1 = some r) : CT l yX0_held cX0_held 2 (some .int) D dA 1 21 0 0 [] [.int x0, .int x1] (some (.int r)) [] := by
  refine ct_open (by decide) (Nat.le_of_ble_eq_true rfl) ?_
  intro G X hI hZ hV hR
  have hRet := hI rfl r rfl
  refine (show TM G r (mX0_held x0 x1) [] 0 0 0 [(0, .int x0), (1, .int x1)] [] from ?_) hm
  clear hm hI hZ hV hR
  unfold mX0_held
  refine tm_iconst X (0 : Int32) dX0_held_0 (by decide) ?_
  refine tm_iload_n X 1 dX0_held_1 rfl rfl ?_
  refine tm_iload_n X 0 dX0_held_2 rfl rfl ?_
  refine tm_mmin X q849 (Nat.le_of_ble_eq_true rfl) (Nat.le_of_ble_eq_true rfl) ⟨Nat.le_of_ble_eq_true rfl, Nat.le_of_ble_eq_true rfl⟩ dX0_held_3 ?_
  refine tm_mmax X q878 (Nat.le_of_ble_eq_true rfl) (Nat.le_of_ble_eq_true rfl) ⟨Nat.le_of_ble_eq_true rfl, Nat.le_of_ble_eq_true rfl⟩ dX0_held_6 ?_
  exact tm_retI hRet dX0_held_9
def mX3_takes (b : Nat) (b2 : Nat) (h : Hp)  : Option (Hp) :=
fx FU (fun _ _ => none) (fun k2 (x2_1 : Int32) (h2 : Hp) =>
if (2 : Int32) ≤ x2_1 then (
nm (u2 h2 b 2 (h2 b2 2)) (fun h3 =>
nm (u2 h3 b 3 (h3 b2 3)) (fun h4 =>
some h4))) else (
fx FU (fun _ _ => none) (fun k9 (x3_5 : Int32) (h6 : Hp) =>
if (48 : Int32) ≤ x3_5 then (
ck x2_1 2 (
ck x2_1 2 (nm (u2 h6 (b + 4) x2_1.toNatClampNeg (h6 (b2 + 4) x2_1.toNatClampNeg)) (fun h7 =>
k2 (x2_1 + (1 : Int32)) h7)))) else (
ck x2_1 2 (
ck x2_1 2 (
ck x3_5 48 (
ck x3_5 48 (nm (u2 h6 ((b + 2) + x2_1.toNatClampNeg) x3_5.toNatClampNeg (h6 ((b2 + 2) + x2_1.toNatClampNeg) x3_5.toNatClampNeg)) (fun h10 =>
k9 (x3_5 + (1 : Int32)) h10))))))) (0 : Int32) h2)) (0 : Int32) h
theorem cyX3_takes : Callee yX3_takes 1 := by unfold Callee; decide +kernel
set_option maxHeartbeats 4000000 in
theorem ctX3_takes_50_40 (l : Launch) (D : va_G) (ad : Nat → Nat) (dA : Nat → ClassId) (tt : (Nat → Option Nat) × (Nat → Option Nat) × va_W) (h : Hp)  (h' : Hp) (hm : mX3_takes 50 40 h = some h') : CT l yX3_takes cX3_takes 4 (some (.object "HighSpots$Bench")) D dA 0 0 0 0 (wX ad dA tt h) [.ref (ad 50), .ref (ad 40)] (some (.ref (ad 50))) (wX ad dA tt h') := by
  refine ct_open (by decide) (Nat.le_of_ble_eq_true rfl) ?_
  intro G X hI hZ hV hR
  have hRet := hR ⟨_, rfl⟩ _ (Or.inr ⟨_, rfl⟩) rfl
  refine (show TM G h' (mX3_takes 50 40 h) (wX ad dA tt h) 0 0 0 [(0, .ref (ad 50)), (1, .ref (ad 40))] [] from ?_) hm
  clear hm hI hZ hV hR
  unfold mX3_takes
  refine tm_iconst X (0 : Int32) dX3_takes_0 (by decide) ?_
  refine tm_istore_n X [(2, .int (0 : Int32)), (0, .ref (ad 50)), (1, .ref (ad 40))] dX3_takes_1 rfl (Nat.le_of_ble_eq_true rfl) rfl ?_
  refine tm_lv X [1, 2, 0] rfl ?_
  refine fx_P (fun (k : Int32 → Hp → Option (Hp)) => ∀ (x2_1 : Int32) (h2 : Hp), TM G h' (k x2_1 h2) (wX ad dA tt h2) 0 0 2 [(0, .ref (ad 50)), (1, .ref (ad 40)), (2, .int x2_1)] []) (fun _ _ => tm_none) (fun k2 hk2 x2_1 h2 => ?_) FU (0 : Int32) h
  refine tm_iload_n X 2 dX3_takes_2 rfl rfl ?_
  refine tm_iconst X (2 : Int32) dX3_takes_3 (by decide) ?_
  refine tm_ic_ge X 55 dX3_takes_4 rfl ?_ ?_
  · skip
    refine tm_aload_n X 0 dX3_takes_55 rfl rfl ?_
    refine tm_aload_n X 1 dX3_takes_56 rfl rfl ?_
    refine tm_getI X (fiX_40_2 ad dA tt) in_X3 rfl (Nat.le_of_ble_eq_true rfl) q182 rfl dX3_takes_57 ?_
    refine tm_putI X (fiX_50_2 ad dA tt) in_X3 rfl (Nat.le_of_ble_eq_true rfl) tyX3 tyX3_ok nmX3 rfl rfl q182 rfl dX3_takes_60 (fun h3 => ?_)
    refine tm_aload_n X 0 dX3_takes_63 rfl rfl ?_
    refine tm_aload_n X 1 dX3_takes_64 rfl rfl ?_
    refine tm_getI X (fiX_40_3 ad dA tt) in_X3 rfl (Nat.le_of_ble_eq_true rfl) q184 rfl dX3_takes_65 ?_
    refine tm_putI X (fiX_50_3 ad dA tt) in_X3 rfl (Nat.le_of_ble_eq_true rfl) tyX3 tyX3_ok nmX3 rfl rfl q184 rfl dX3_takes_68 (fun h4 => ?_)
    refine tm_aload_n X 0 dX3_takes_71 rfl rfl ?_
    exact tm_retA (wf := wX ad dA tt) hRet dX3_takes_72
  · skip
    refine tm_iconst X (0 : Int32) dX3_takes_7 (by decide) ?_
    refine tm_istore_n X [(3, .int (0 : Int32)), (0, .ref (ad 50)), (1, .ref (ad 40)), (2, .int x2_1)] dX3_takes_8 rfl (Nat.le_of_ble_eq_true rfl) rfl ?_
    refine tm_lv X [1, 2, 3, 0] rfl ?_
    refine fx_P (fun (k : Int32 → Hp → Option (Hp)) => ∀ (x3_5 : Int32) (h6 : Hp), TM G h' (k x3_5 h6) (wX ad dA tt h6) 0 0 9 [(0, .ref (ad 50)), (1, .ref (ad 40)), (2, .int x2_1), (3, .int x3_5)] []) (fun _ _ => tm_none) (fun k9 hk9 x3_5 h6 => ?_) FU (0 : Int32) h2
    refine tm_iload_n X 3 dX3_takes_9 rfl rfl ?_
    refine tm_bipush X (48 : Int32) dX3_takes_10 (by decide) ?_
    refine tm_ic_ge X 37 dX3_takes_12 rfl ?_ ?_
    · skip
      refine tm_aload_n X 0 dX3_takes_37 rfl rfl ?_
      refine tm_getR X (frX_50_1 ad dA tt h6) in_X3 rfl (Nat.le_of_ble_eq_true rfl) q180 rfl dX3_takes_38 ?_
      refine tm_iload_n X 2 dX3_takes_41 rfl rfl ?_
      refine tm_aload_n X 1 dX3_takes_42 rfl rfl ?_
      refine tm_getR X (frX_40_1 ad dA tt h6) in_X3 rfl (Nat.le_of_ble_eq_true rfl) q180 rfl dX3_takes_43 ?_
      refine tm_iload_n X 2 dX3_takes_46 rfl rfl ?_
      refine tm_iaload X (arX_44 ad dA tt) dX3_takes_47 ?_
      refine tm_iastore X (arX_54 ad dA tt) dX3_takes_48 (fun h7 => ?_)
      refine tm_iinc (v := (1 : Int32)) X 2 [(2, .int (x2_1 + (1 : Int32))), (0, .ref (ad 50)), (1, .ref (ad 40)), (3, .int x3_5)] dX3_takes_49 rfl (by decide) (Nat.le_of_ble_eq_true rfl) rfl ?_
      refine tm_goto X 2 dX3_takes_52 rfl ?_
      refine tm_lv X [1, 2, 0] rfl ?_
      exact hk2 (x2_1 + (1 : Int32)) h7
    · skip
      refine tm_aload_n X 0 dX3_takes_15 rfl rfl ?_
      refine tm_getR X (frX_50_0 ad dA tt h6) in_X3 rfl (Nat.le_of_ble_eq_true rfl) q178 rfl dX3_takes_16 ?_
      refine tm_iload_n X 2 dX3_takes_19 rfl rfl ?_
      refine tm_aaloadX X (aaX_51 ad dA tt h6) dX3_takes_20 (fun hb8 => ?_)
      refine tm_iload_n X 3 dX3_takes_21 rfl rfl ?_
      refine tm_aload_n X 1 dX3_takes_22 rfl rfl ?_
      refine tm_getR X (frX_40_0 ad dA tt h6) in_X3 rfl (Nat.le_of_ble_eq_true rfl) q178 rfl dX3_takes_23 ?_
      refine tm_iload_n X 2 dX3_takes_26 rfl rfl ?_
      refine tm_aaloadX X (aaX_41 ad dA tt h6) dX3_takes_27 (fun hb9 => ?_)
      refine tm_iload_n X 3 dX3_takes_28 rfl rfl ?_
      refine tm_iaload X (ar2X_42 ad dA tt _ hb9) dX3_takes_29 ?_
      refine tm_iastore X (ar2X_52 ad dA tt _ hb8) dX3_takes_30 (fun h10 => ?_)
      refine tm_iinc (v := (1 : Int32)) X 3 [(3, .int (x3_5 + (1 : Int32))), (0, .ref (ad 50)), (1, .ref (ad 40)), (2, .int x2_1)] dX3_takes_31 rfl (by decide) (Nat.le_of_ble_eq_true rfl) rfl ?_
      refine tm_goto X 9 dX3_takes_34 rfl ?_
      refine tm_lv X [1, 2, 3, 0] rfl ?_
      exact hk9 (x3_5 + (1 : Int32)) h10
set_option maxHeartbeats 4000000 in
theorem ctX3_takes_60_40 (l : Launch) (D : va_G) (ad : Nat → Nat) (dA : Nat → ClassId) (tt : (Nat → Option Nat) × (Nat → Option Nat) × va_W) (h : Hp)  (h' : Hp) (hm : mX3_takes 60 40 h = some h') : CT l yX3_takes cX3_takes 4 (some (.object "HighSpots$Bench")) D dA 0 0 0 0 (wX ad dA tt h) [.ref (ad 60), .ref (ad 40)] (some (.ref (ad 60))) (wX ad dA tt h') := by
  refine ct_open (by decide) (Nat.le_of_ble_eq_true rfl) ?_
  intro G X hI hZ hV hR
  have hRet := hR ⟨_, rfl⟩ _ (Or.inr ⟨_, rfl⟩) rfl
  refine (show TM G h' (mX3_takes 60 40 h) (wX ad dA tt h) 0 0 0 [(0, .ref (ad 60)), (1, .ref (ad 40))] [] from ?_) hm
  clear hm hI hZ hV hR
  unfold mX3_takes
  refine tm_iconst X (0 : Int32) dX3_takes_0 (by decide) ?_
  refine tm_istore_n X [(2, .int (0 : Int32)), (0, .ref (ad 60)), (1, .ref (ad 40))] dX3_takes_1 rfl (Nat.le_of_ble_eq_true rfl) rfl ?_
  refine tm_lv X [1, 2, 0] rfl ?_
  refine fx_P (fun (k : Int32 → Hp → Option (Hp)) => ∀ (x2_1 : Int32) (h2 : Hp), TM G h' (k x2_1 h2) (wX ad dA tt h2) 0 0 2 [(0, .ref (ad 60)), (1, .ref (ad 40)), (2, .int x2_1)] []) (fun _ _ => tm_none) (fun k2 hk2 x2_1 h2 => ?_) FU (0 : Int32) h
  refine tm_iload_n X 2 dX3_takes_2 rfl rfl ?_
  refine tm_iconst X (2 : Int32) dX3_takes_3 (by decide) ?_
  refine tm_ic_ge X 55 dX3_takes_4 rfl ?_ ?_
  · skip
    refine tm_aload_n X 0 dX3_takes_55 rfl rfl ?_
    refine tm_aload_n X 1 dX3_takes_56 rfl rfl ?_
    refine tm_getI X (fiX_40_2 ad dA tt) in_X3 rfl (Nat.le_of_ble_eq_true rfl) q182 rfl dX3_takes_57 ?_
    refine tm_putI X (fiX_60_2 ad dA tt) in_X3 rfl (Nat.le_of_ble_eq_true rfl) tyX3 tyX3_ok nmX3 rfl rfl q182 rfl dX3_takes_60 (fun h3 => ?_)
    refine tm_aload_n X 0 dX3_takes_63 rfl rfl ?_
    refine tm_aload_n X 1 dX3_takes_64 rfl rfl ?_
    refine tm_getI X (fiX_40_3 ad dA tt) in_X3 rfl (Nat.le_of_ble_eq_true rfl) q184 rfl dX3_takes_65 ?_
    refine tm_putI X (fiX_60_3 ad dA tt) in_X3 rfl (Nat.le_of_ble_eq_true rfl) tyX3 tyX3_ok nmX3 rfl rfl q184 rfl dX3_takes_68 (fun h4 => ?_)
    refine tm_aload_n X 0 dX3_takes_71 rfl rfl ?_
    exact tm_retA (wf := wX ad dA tt) hRet dX3_takes_72
  · skip
    refine tm_iconst X (0 : Int32) dX3_takes_7 (by decide) ?_
    refine tm_istore_n X [(3, .int (0 : Int32)), (0, .ref (ad 60)), (1, .ref (ad 40)), (2, .int x2_1)] dX3_takes_8 rfl (Nat.le_of_ble_eq_true rfl) rfl ?_
    refine tm_lv X [1, 2, 3, 0] rfl ?_
    refine fx_P (fun (k : Int32 → Hp → Option (Hp)) => ∀ (x3_5 : Int32) (h6 : Hp), TM G h' (k x3_5 h6) (wX ad dA tt h6) 0 0 9 [(0, .ref (ad 60)), (1, .ref (ad 40)), (2, .int x2_1), (3, .int x3_5)] []) (fun _ _ => tm_none) (fun k9 hk9 x3_5 h6 => ?_) FU (0 : Int32) h2
    refine tm_iload_n X 3 dX3_takes_9 rfl rfl ?_
    refine tm_bipush X (48 : Int32) dX3_takes_10 (by decide) ?_
    refine tm_ic_ge X 37 dX3_takes_12 rfl ?_ ?_
    · skip
      refine tm_aload_n X 0 dX3_takes_37 rfl rfl ?_
      refine tm_getR X (frX_60_1 ad dA tt h6) in_X3 rfl (Nat.le_of_ble_eq_true rfl) q180 rfl dX3_takes_38 ?_
      refine tm_iload_n X 2 dX3_takes_41 rfl rfl ?_
      refine tm_aload_n X 1 dX3_takes_42 rfl rfl ?_
      refine tm_getR X (frX_40_1 ad dA tt h6) in_X3 rfl (Nat.le_of_ble_eq_true rfl) q180 rfl dX3_takes_43 ?_
      refine tm_iload_n X 2 dX3_takes_46 rfl rfl ?_
      refine tm_iaload X (arX_44 ad dA tt) dX3_takes_47 ?_
      refine tm_iastore X (arX_64 ad dA tt) dX3_takes_48 (fun h7 => ?_)
      refine tm_iinc (v := (1 : Int32)) X 2 [(2, .int (x2_1 + (1 : Int32))), (0, .ref (ad 60)), (1, .ref (ad 40)), (3, .int x3_5)] dX3_takes_49 rfl (by decide) (Nat.le_of_ble_eq_true rfl) rfl ?_
      refine tm_goto X 2 dX3_takes_52 rfl ?_
      refine tm_lv X [1, 2, 0] rfl ?_
      exact hk2 (x2_1 + (1 : Int32)) h7
    · skip
      refine tm_aload_n X 0 dX3_takes_15 rfl rfl ?_
      refine tm_getR X (frX_60_0 ad dA tt h6) in_X3 rfl (Nat.le_of_ble_eq_true rfl) q178 rfl dX3_takes_16 ?_
      refine tm_iload_n X 2 dX3_takes_19 rfl rfl ?_
      refine tm_aaloadX X (aaX_61 ad dA tt h6) dX3_takes_20 (fun hb8 => ?_)
      refine tm_iload_n X 3 dX3_takes_21 rfl rfl ?_
      refine tm_aload_n X 1 dX3_takes_22 rfl rfl ?_
      refine tm_getR X (frX_40_0 ad dA tt h6) in_X3 rfl (Nat.le_of_ble_eq_true rfl) q178 rfl dX3_takes_23 ?_
      refine tm_iload_n X 2 dX3_takes_26 rfl rfl ?_
      refine tm_aaloadX X (aaX_41 ad dA tt h6) dX3_takes_27 (fun hb9 => ?_)
      refine tm_iload_n X 3 dX3_takes_28 rfl rfl ?_
      refine tm_iaload X (ar2X_42 ad dA tt _ hb9) dX3_takes_29 ?_
      refine tm_iastore X (ar2X_62 ad dA tt _ hb8) dX3_takes_30 (fun h10 => ?_)
      refine tm_iinc (v := (1 : Int32)) X 3 [(3, .int (x3_5 + (1 : Int32))), (0, .ref (ad 60)), (1, .ref (ad 40)), (2, .int x2_1)] dX3_takes_31 rfl (by decide) (Nat.le_of_ble_eq_true rfl) rfl ?_
      refine tm_goto X 9 dX3_takes_34 rfl ?_
      refine tm_lv X [1, 2, 3, 0] rfl ?_
      exact hk9 (x3_5 + (1 : Int32)) h10
set_option maxHeartbeats 4000000 in
theorem ctX3_takes_40_60 (l : Launch) (D : va_G) (ad : Nat → Nat) (dA : Nat → ClassId) (tt : (Nat → Option Nat) × (Nat → Option Nat) × va_W) (h : Hp)  (h' : Hp) (hm : mX3_takes 40 60 h = some h') : CT l yX3_takes cX3_takes 4 (some (.object "HighSpots$Bench")) D dA 0 0 0 0 (wX ad dA tt h) [.ref (ad 40), .ref (ad 60)] (some (.ref (ad 40))) (wX ad dA tt h') := by
  refine ct_open (by decide) (Nat.le_of_ble_eq_true rfl) ?_
  intro G X hI hZ hV hR
  have hRet := hR ⟨_, rfl⟩ _ (Or.inr ⟨_, rfl⟩) rfl
  refine (show TM G h' (mX3_takes 40 60 h) (wX ad dA tt h) 0 0 0 [(0, .ref (ad 40)), (1, .ref (ad 60))] [] from ?_) hm
  clear hm hI hZ hV hR
  unfold mX3_takes
  refine tm_iconst X (0 : Int32) dX3_takes_0 (by decide) ?_
  refine tm_istore_n X [(2, .int (0 : Int32)), (0, .ref (ad 40)), (1, .ref (ad 60))] dX3_takes_1 rfl (Nat.le_of_ble_eq_true rfl) rfl ?_
  refine tm_lv X [1, 2, 0] rfl ?_
  refine fx_P (fun (k : Int32 → Hp → Option (Hp)) => ∀ (x2_1 : Int32) (h2 : Hp), TM G h' (k x2_1 h2) (wX ad dA tt h2) 0 0 2 [(0, .ref (ad 40)), (1, .ref (ad 60)), (2, .int x2_1)] []) (fun _ _ => tm_none) (fun k2 hk2 x2_1 h2 => ?_) FU (0 : Int32) h
  refine tm_iload_n X 2 dX3_takes_2 rfl rfl ?_
  refine tm_iconst X (2 : Int32) dX3_takes_3 (by decide) ?_
  refine tm_ic_ge X 55 dX3_takes_4 rfl ?_ ?_
  · skip
    refine tm_aload_n X 0 dX3_takes_55 rfl rfl ?_
    refine tm_aload_n X 1 dX3_takes_56 rfl rfl ?_
    refine tm_getI X (fiX_60_2 ad dA tt) in_X3 rfl (Nat.le_of_ble_eq_true rfl) q182 rfl dX3_takes_57 ?_
    refine tm_putI X (fiX_40_2 ad dA tt) in_X3 rfl (Nat.le_of_ble_eq_true rfl) tyX3 tyX3_ok nmX3 rfl rfl q182 rfl dX3_takes_60 (fun h3 => ?_)
    refine tm_aload_n X 0 dX3_takes_63 rfl rfl ?_
    refine tm_aload_n X 1 dX3_takes_64 rfl rfl ?_
    refine tm_getI X (fiX_60_3 ad dA tt) in_X3 rfl (Nat.le_of_ble_eq_true rfl) q184 rfl dX3_takes_65 ?_
    refine tm_putI X (fiX_40_3 ad dA tt) in_X3 rfl (Nat.le_of_ble_eq_true rfl) tyX3 tyX3_ok nmX3 rfl rfl q184 rfl dX3_takes_68 (fun h4 => ?_)
    refine tm_aload_n X 0 dX3_takes_71 rfl rfl ?_
    exact tm_retA (wf := wX ad dA tt) hRet dX3_takes_72
  · skip
    refine tm_iconst X (0 : Int32) dX3_takes_7 (by decide) ?_
    refine tm_istore_n X [(3, .int (0 : Int32)), (0, .ref (ad 40)), (1, .ref (ad 60)), (2, .int x2_1)] dX3_takes_8 rfl (Nat.le_of_ble_eq_true rfl) rfl ?_
    refine tm_lv X [1, 2, 3, 0] rfl ?_
    refine fx_P (fun (k : Int32 → Hp → Option (Hp)) => ∀ (x3_5 : Int32) (h6 : Hp), TM G h' (k x3_5 h6) (wX ad dA tt h6) 0 0 9 [(0, .ref (ad 40)), (1, .ref (ad 60)), (2, .int x2_1), (3, .int x3_5)] []) (fun _ _ => tm_none) (fun k9 hk9 x3_5 h6 => ?_) FU (0 : Int32) h2
    refine tm_iload_n X 3 dX3_takes_9 rfl rfl ?_
    refine tm_bipush X (48 : Int32) dX3_takes_10 (by decide) ?_
    refine tm_ic_ge X 37 dX3_takes_12 rfl ?_ ?_
    · skip
      refine tm_aload_n X 0 dX3_takes_37 rfl rfl ?_
      refine tm_getR X (frX_40_1 ad dA tt h6) in_X3 rfl (Nat.le_of_ble_eq_true rfl) q180 rfl dX3_takes_38 ?_
      refine tm_iload_n X 2 dX3_takes_41 rfl rfl ?_
      refine tm_aload_n X 1 dX3_takes_42 rfl rfl ?_
      refine tm_getR X (frX_60_1 ad dA tt h6) in_X3 rfl (Nat.le_of_ble_eq_true rfl) q180 rfl dX3_takes_43 ?_
      refine tm_iload_n X 2 dX3_takes_46 rfl rfl ?_
      refine tm_iaload X (arX_64 ad dA tt) dX3_takes_47 ?_
      refine tm_iastore X (arX_44 ad dA tt) dX3_takes_48 (fun h7 => ?_)
      refine tm_iinc (v := (1 : Int32)) X 2 [(2, .int (x2_1 + (1 : Int32))), (0, .ref (ad 40)), (1, .ref (ad 60)), (3, .int x3_5)] dX3_takes_49 rfl (by decide) (Nat.le_of_ble_eq_true rfl) rfl ?_
      refine tm_goto X 2 dX3_takes_52 rfl ?_
      refine tm_lv X [1, 2, 0] rfl ?_
      exact hk2 (x2_1 + (1 : Int32)) h7
    · skip
      refine tm_aload_n X 0 dX3_takes_15 rfl rfl ?_
      refine tm_getR X (frX_40_0 ad dA tt h6) in_X3 rfl (Nat.le_of_ble_eq_true rfl) q178 rfl dX3_takes_16 ?_
      refine tm_iload_n X 2 dX3_takes_19 rfl rfl ?_
      refine tm_aaloadX X (aaX_41 ad dA tt h6) dX3_takes_20 (fun hb8 => ?_)
      refine tm_iload_n X 3 dX3_takes_21 rfl rfl ?_
      refine tm_aload_n X 1 dX3_takes_22 rfl rfl ?_
      refine tm_getR X (frX_60_0 ad dA tt h6) in_X3 rfl (Nat.le_of_ble_eq_true rfl) q178 rfl dX3_takes_23 ?_
      refine tm_iload_n X 2 dX3_takes_26 rfl rfl ?_
      refine tm_aaloadX X (aaX_61 ad dA tt h6) dX3_takes_27 (fun hb9 => ?_)
      refine tm_iload_n X 3 dX3_takes_28 rfl rfl ?_
      refine tm_iaload X (ar2X_62 ad dA tt _ hb9) dX3_takes_29 ?_
      refine tm_iastore X (ar2X_42 ad dA tt _ hb8) dX3_takes_30 (fun h10 => ?_)
      refine tm_iinc (v := (1 : Int32)) X 3 [(3, .int (x3_5 + (1 : Int32))), (0, .ref (ad 40)), (1, .ref (ad 60)), (2, .int x2_1)] dX3_takes_31 rfl (by decide) (Nat.le_of_ble_eq_true rfl) rfl ?_
      refine tm_goto X 9 dX3_takes_34 rfl ?_
      refine tm_lv X [1, 2, 3, 0] rfl ?_
      exact hk9 (x3_5 + (1 : Int32)) h10
def mX0_seed (h : Hp) (x1 : Int32) : Option (Int32 × Hp) :=
cl1 (mX0_in x1 (65536 : Int32)) (fun r1 =>
if r1 = 0 then (
bz (0 : Int32) (some ((0 : Int32), h))) else (
nm (u2 h 40 3 x1) (fun h3 =>
bz (1 : Int32) (some ((1 : Int32), h3)))))
theorem cyX0_seed : Callee yX0_seed 1 := by unfold Callee; decide +kernel
set_option maxHeartbeats 4000000 in
theorem ctX0_seed (l : Launch) (D : va_G) (ad : Nat → Nat) (dA : Nat → ClassId) (tt : (Nat → Option Nat) × (Nat → Option Nat) × va_W) (h : Hp) (x1 : Int32) (r : Int32) (h' : Hp) (hm : mX0_seed h x1 = some (r, h')) : CT l yX0_seed cX0_seed 2 (some .boolean) D dA 1 21 0 0 (wX ad dA tt h) [.ref (ad 100), .int x1] (some (.int r)) (wX ad dA tt h') := by
  refine ct_open (by decide) (Nat.le_of_ble_eq_true rfl) ?_
  intro G X hI hZ hV hR
  have hRet := fun hv => hZ rfl r hv rfl
  refine (show TM G (r, h') (mX0_seed h x1) (wX ad dA tt h) 0 0 0 [(0, .ref (ad 100)), (1, .int x1)] [] from ?_) hm
  clear hm hI hZ hV hR
  unfold mX0_seed
  refine tm_iload_n X 1 dX0_seed_0 rfl rfl ?_
  refine tm_ldcw X (65536 : Int32) q1160 dX0_seed_1 ?_
  refine tm_cl1 (fun r1 e2 => ?_)
  refine tm_callSi (As := [.int x1, .int (65536 : Int32)]) (rest := []) X (ctX0_in l D dA x1 (65536 : Int32) r1 e2) (lw_S q311 q312 q117 q313) cyX0_in rfl ⟨(Nat.le_of_ble_eq_true rfl), (Nat.le_of_ble_eq_true rfl)⟩ (Nat.le_of_ble_eq_true rfl) dX0_seed_4 ⟨Nat.le_of_ble_eq_true rfl, Nat.le_of_ble_eq_true rfl⟩ rfl ?_
  refine tm_if_ne X 12 dX0_seed_7 rfl ?_ ?_
  · skip
    refine tm_aload_n X 0 dX0_seed_12 rfl rfl ?_
    refine tm_getR X (frX_100_5 ad dA tt h) in_X0 rfl (Nat.le_of_ble_eq_true rfl) q242 rfl dX0_seed_13 ?_
    refine tm_iload_n X 1 dX0_seed_16 rfl rfl ?_
    refine tm_putIN X (fiX_40_3 ad dA tt) in_X3 rfl (Nat.le_of_ble_eq_true rfl) tyX3 tyX3_ok nmX3 rfl rfl q185 rfl dX0_seed_17 (fun h3 => ?_)
    refine tm_iconst X (1 : Int32) dX0_seed_20 (by decide) ?_
    exact tm_retZH (wf := wX ad dA tt) hRet dX0_seed_21
  · skip
    refine tm_iconst X (0 : Int32) dX0_seed_10 (by decide) ?_
    exact tm_retZH (wf := wX ad dA tt) hRet dX0_seed_11
def mX0_keep (h : Hp)  : Option (Int32 × Hp) :=
nm (u2 h 100 11 (1 : Int32)) (fun h1 =>
cl1 (mX3_takes 60 40 h1) (fun h3 =>
some ((h3 40 2), h3)))
theorem cyX0_keep : Callee yX0_keep 0 := by unfold Callee; decide +kernel
set_option maxHeartbeats 4000000 in
theorem ctX0_keep (l : Launch) (D : va_G) (ad : Nat → Nat) (dA : Nat → ClassId) (tt : (Nat → Option Nat) × (Nat → Option Nat) × va_W) (h : Hp)  (r : Int32) (h' : Hp) (hm : mX0_keep h = some (r, h')) : CT l yX0_keep cX0_keep 1 (some .int) D dA 1 23 0 0 (wX ad dA tt h) [.ref (ad 100)] (some (.int r)) (wX ad dA tt h') := by
  refine ct_open (by decide) (Nat.le_of_ble_eq_true rfl) ?_
  intro G X hI hZ hV hR
  have hRet := hI rfl r rfl
  refine (show TM G (r, h') (mX0_keep h) (wX ad dA tt h) 0 0 0 [(0, .ref (ad 100))] [] from ?_) hm
  clear hm hI hZ hV hR
  unfold mX0_keep
  refine tm_aload_n X 0 dX0_keep_0 rfl rfl ?_
  refine tm_iconst X (1 : Int32) dX0_keep_1 (by decide) ?_
  refine tm_putZ X (fiX_100_11 ad dA tt) in_X0 rfl (Nat.le_of_ble_eq_true rfl) tyX0 tyX0_ok nmX0 rfl rfl rfl rfl q251 rfl dX0_keep_2 (fun h1 => ?_)
  refine tm_aload_n X 0 dX0_keep_5 rfl rfl ?_
  refine tm_getR X (frX_100_7 ad dA tt h1) in_X0 rfl (Nat.le_of_ble_eq_true rfl) q244 rfl dX0_keep_6 ?_
  refine tm_aload_n X 0 dX0_keep_9 rfl rfl ?_
  refine tm_getR X (frX_100_5 ad dA tt h1) in_X0 rfl (Nat.le_of_ble_eq_true rfl) q242 rfl dX0_keep_10 ?_
  refine tm_cl1 (fun h3 e2 => ?_)
  refine tm_callVr (As := [.ref (ad 40)]) (rest := []) (q0 := 13) X (ctX3_takes_60_40 l D ad dA tt h1 h3 e2) (lw_V q1147 q1148 q1149 q120 q1150) cyX3_takes rfl rfl rfl ⟨(Nat.le_of_ble_eq_true rfl), (Nat.le_of_ble_eq_true rfl)⟩ (Nat.le_of_ble_eq_true rfl) dX0_keep_13 ⟨Nat.le_of_ble_eq_true rfl, Nat.le_of_ble_eq_true rfl⟩ rfl ?_
  refine tm_pop X dX0_keep_16 rfl ?_
  refine tm_aload_n X 0 dX0_keep_17 rfl rfl ?_
  refine tm_getR X (frX_100_5 ad dA tt h3) in_X0 rfl (Nat.le_of_ble_eq_true rfl) q242 rfl dX0_keep_18 ?_
  refine tm_getIN X (fiX_40_2 ad dA tt) in_X3 rfl (Nat.le_of_ble_eq_true rfl) q183 rfl dX0_keep_21 ?_
  exact tm_retIH (wf := wX ad dA tt) hRet dX0_keep_24
def mX0_undo (h : Hp)  : Option (Int32 × Hp) :=
if (h 100 11) = 0 then (
bz (0 : Int32) (some ((0 : Int32), h))) else (
cl1 (mX3_takes 40 60 h) (fun h2 =>
bz (1 : Int32) (some ((1 : Int32), h2))))
theorem cyX0_undo : Callee yX0_undo 0 := by unfold Callee; decide +kernel
set_option maxHeartbeats 4000000 in
theorem ctX0_undo (l : Launch) (D : va_G) (ad : Nat → Nat) (dA : Nat → ClassId) (tt : (Nat → Option Nat) × (Nat → Option Nat) × va_W) (h : Hp)  (r : Int32) (h' : Hp) (hm : mX0_undo h = some (r, h')) : CT l yX0_undo cX0_undo 1 (some .boolean) D dA 1 23 0 0 (wX ad dA tt h) [.ref (ad 100)] (some (.int r)) (wX ad dA tt h') := by
  refine ct_open (by decide) (Nat.le_of_ble_eq_true rfl) ?_
  intro G X hI hZ hV hR
  have hRet := fun hv => hZ rfl r hv rfl
  refine (show TM G (r, h') (mX0_undo h) (wX ad dA tt h) 0 0 0 [(0, .ref (ad 100))] [] from ?_) hm
  clear hm hI hZ hV hR
  unfold mX0_undo
  refine tm_aload_n X 0 dX0_undo_0 rfl rfl ?_
  refine tm_getI X (fiX_100_11 ad dA tt) in_X0 rfl (Nat.le_of_ble_eq_true rfl) q251 rfl dX0_undo_1 ?_
  refine tm_if_ne X 9 dX0_undo_4 rfl ?_ ?_
  · skip
    refine tm_aload_n X 0 dX0_undo_9 rfl rfl ?_
    refine tm_getR X (frX_100_5 ad dA tt h) in_X0 rfl (Nat.le_of_ble_eq_true rfl) q242 rfl dX0_undo_10 ?_
    refine tm_aload_n X 0 dX0_undo_13 rfl rfl ?_
    refine tm_getR X (frX_100_7 ad dA tt h) in_X0 rfl (Nat.le_of_ble_eq_true rfl) q244 rfl dX0_undo_14 ?_
    refine tm_cl1 (fun h2 e1 => ?_)
    refine tm_callVr (As := [.ref (ad 60)]) (rest := []) (q0 := 3) X (ctX3_takes_40_60 l D ad dA tt h h2 e1) (lw_V q1147 q1148 q1149 q120 q1150) cyX3_takes rfl rfl rfl ⟨(Nat.le_of_ble_eq_true rfl), (Nat.le_of_ble_eq_true rfl)⟩ (Nat.le_of_ble_eq_true rfl) dX0_undo_17 ⟨Nat.le_of_ble_eq_true rfl, Nat.le_of_ble_eq_true rfl⟩ rfl ?_
    refine tm_pop X dX0_undo_20 rfl ?_
    refine tm_iconst X (1 : Int32) dX0_undo_21 (by decide) ?_
    exact tm_retZH (wf := wX ad dA tt) hRet dX0_undo_22
  · skip
    refine tm_iconst X (0 : Int32) dX0_undo_7 (by decide) ?_
    exact tm_retZH (wf := wX ad dA tt) hRet dX0_undo_8
def mX0_check (h : Hp) (x1 : Int32) : Option (Int32 × Hp) :=
cl1 (mX0_within x1 (0 : Int32) (16 : Int32)) (fun r1 =>
nm (
some ((-2 : Int32), h)) (fun k18 =>
if r1 = 0 then (
k18) else (
if x1 ≤ (h 100 10) then (
nm (u2 h 100 10 (0 : Int32)) (fun h3 =>
fx FU (fun _ => none) (fun k28 (x2_4 : Int32) =>
if x1 ≤ x2_4 then (
some ((-1 : Int32), h3)) else (
cl1 (mX0_fed h3 x2_4) (fun r6 =>
nm (fun (s7 : Int32) =>
ck s7 2 (
nm ((jrem x2_4 (8 : Int32))) (fun v9 =>
ck v9 48 (
if r6 = (h3 (42 + s7.toNatClampNeg) v9.toNatClampNeg) then (
k28 (x2_4 + (1 : Int32))) else (
some (x2_4, h3)))))) (fun k56 =>
if (8 : Int32) ≤ x2_4 then (
k56 (0 : Int32)) else (
k56 (1 : Int32)))))) (0 : Int32))) else (
k18))))
theorem cyX0_check : Callee yX0_check 1 := by unfold Callee; decide +kernel
set_option maxHeartbeats 4000000 in
theorem ctX0_check (l : Launch) (D : va_G) (ad : Nat → Nat) (dA : Nat → ClassId) (tt : (Nat → Option Nat) × (Nat → Option Nat) × va_W) (h : Hp) (x1 : Int32) (r : Int32) (h' : Hp) (hm : mX0_check h x1 = some (r, h')) : CT l yX0_check cX0_check 3 (some .int) D dA 1 22 0 0 (wX ad dA tt h) [.ref (ad 100), .int x1] (some (.int r)) (wX ad dA tt h') := by
  refine ct_open (by decide) (Nat.le_of_ble_eq_true rfl) ?_
  intro G X hI hZ hV hR
  have hRet := hI rfl r rfl
  refine (show TM G (r, h') (mX0_check h x1) (wX ad dA tt h) 0 0 0 [(0, .ref (ad 100)), (1, .int x1)] [] from ?_) hm
  clear hm hI hZ hV hR
  unfold mX0_check
  refine tm_iload_n X 1 dX0_check_0 rfl rfl ?_
  refine tm_iconst X (0 : Int32) dX0_check_1 (by decide) ?_
  refine tm_bipush X (16 : Int32) dX0_check_2 (by decide) ?_
  refine tm_cl1 (fun r1 e2 => ?_)
  refine tm_callSi (As := [.int x1, .int (0 : Int32), .int (16 : Int32)]) (rest := []) X (ctX0_within l D dA x1 (0 : Int32) (16 : Int32) r1 e2) (lw_S q317 q318 q117 q319) cyX0_within rfl ⟨(Nat.le_of_ble_eq_true rfl), (Nat.le_of_ble_eq_true rfl)⟩ (Nat.le_of_ble_eq_true rfl) dX0_check_4 ⟨Nat.le_of_ble_eq_true rfl, Nat.le_of_ble_eq_true rfl⟩ rfl ?_
  refine tm_let (fun k => TM G (r, h') k (wX ad dA tt h) 0 0 18 [] []) ?_ (fun k18 hk18 => ?_)
  · skip
    refine tm_bipush X (-2 : Int32) dX0_check_18 (by decide) ?_
    exact tm_retIH (wf := wX ad dA tt) hRet dX0_check_20
  · skip
    refine tm_if_eq X 18 dX0_check_7 rfl ?_ ?_
    · skip
      refine tm_lv X [] rfl ?_
      exact hk18
    · skip
      refine tm_iload_n X 1 dX0_check_10 rfl rfl ?_
      refine tm_aload_n X 0 dX0_check_11 rfl rfl ?_
      refine tm_getI X (fiX_100_10 ad dA tt) in_X0 rfl (Nat.le_of_ble_eq_true rfl) q250 rfl dX0_check_12 ?_
      refine tm_ic_le X 21 dX0_check_15 rfl ?_ ?_
      · skip
        refine tm_aload_n X 0 dX0_check_21 rfl rfl ?_
        refine tm_iconst X (0 : Int32) dX0_check_22 (by decide) ?_
        refine tm_putI X (fiX_100_10 ad dA tt) in_X0 rfl (Nat.le_of_ble_eq_true rfl) tyX0 tyX0_ok nmX0 rfl rfl q250 rfl dX0_check_23 (fun h3 => ?_)
        refine tm_iconst X (0 : Int32) dX0_check_26 (by decide) ?_
        refine tm_istore_n X [(2, .int (0 : Int32)), (0, .ref (ad 100)), (1, .int x1)] dX0_check_27 rfl (Nat.le_of_ble_eq_true rfl) rfl ?_
        refine tm_lv X [1, 2, 0] rfl ?_
        refine fx_P (fun (k : Int32 → Option (Int32 × Hp)) => ∀ (x2_4 : Int32), TM G (r, h') (k x2_4) (wX ad dA tt h3) 0 0 28 [(0, .ref (ad 100)), (1, .int x1), (2, .int x2_4)] []) (fun _ => tm_none) (fun k28 hk28 x2_4 => ?_) FU (0 : Int32)
        refine tm_iload_n X 2 dX0_check_28 rfl rfl ?_
        refine tm_iload_n X 1 dX0_check_29 rfl rfl ?_
        refine tm_ic_ge X 73 dX0_check_30 rfl ?_ ?_
        · skip
          refine tm_iconst X (-1 : Int32) dX0_check_73 (by decide) ?_
          exact tm_retIH (wf := wX ad dA tt) hRet dX0_check_74
        · skip
          refine tm_aload_n X 0 dX0_check_33 rfl rfl ?_
          refine tm_iload_n X 2 dX0_check_34 rfl rfl ?_
          refine tm_cl1 (fun r6 e5 => ?_)
          refine tm_callVi (As := [.int x2_4]) (rest := []) (q0 := 0) X (ctX0_fed l D ad dA tt h3 x2_4 r6 e5) (lw_V q883 q885 qs26 q117 q886) cyX0_fed rfl rfl rfl ⟨(Nat.le_of_ble_eq_true rfl), (Nat.le_of_ble_eq_true rfl)⟩ (Nat.le_of_ble_eq_true rfl) dX0_check_35 ⟨Nat.le_of_ble_eq_true rfl, Nat.le_of_ble_eq_true rfl⟩ rfl ?_
          refine tm_aload_n X 0 dX0_check_38 rfl rfl ?_
          refine tm_getR X (frX_100_5 ad dA tt h3) in_X0 rfl (Nat.le_of_ble_eq_true rfl) q242 rfl dX0_check_39 ?_
          refine tm_getRN X (frX_40_0 ad dA tt h3) in_X3 rfl (Nat.le_of_ble_eq_true rfl) q179 rfl dX0_check_42 ?_
          refine tm_iload_n X 2 dX0_check_45 rfl rfl ?_
          refine tm_bipush X (8 : Int32) dX0_check_46 (by decide) ?_
          refine tm_let (fun k => ∀ (s7 : Int32), TM G (r, h') (k s7) (wX ad dA tt h3) 0 0 56 [(0, .ref (ad 100)), (1, .int x1), (2, .int x2_4)] [.int s7, .ref (ad 41), .int r6]) ?_ (fun k56 hk56 => ?_)
          · intro s7
            refine tm_aaloadX X (aaX_41 ad dA tt h3) dX0_check_56 (fun hb8 => ?_)
            refine tm_iload_n X 2 dX0_check_57 rfl rfl ?_
            refine tm_bipush X (8 : Int32) dX0_check_58 (by decide) ?_
            refine tm_irem X dX0_check_60 (by decide) ?_
            refine tm_nmI (fun v9 => ?_)
            refine tm_iaload X (ar2X_42 ad dA tt _ hb8) dX0_check_61 ?_
            refine tm_ic_eq X 67 dX0_check_62 rfl ?_ ?_
            · skip
              refine tm_iinc (v := (1 : Int32)) X 2 [(2, .int (x2_4 + (1 : Int32))), (0, .ref (ad 100)), (1, .int x1)] dX0_check_67 rfl (by decide) (Nat.le_of_ble_eq_true rfl) rfl ?_
              refine tm_goto X 28 dX0_check_70 rfl ?_
              refine tm_lv X [1, 2, 0] rfl ?_
              exact hk28 (x2_4 + (1 : Int32))
            · skip
              refine tm_iload_n X 2 dX0_check_65 rfl rfl ?_
              exact tm_retIH (wf := wX ad dA tt) hRet dX0_check_66
          · skip
            refine tm_ic_ge X 55 dX0_check_48 rfl ?_ ?_
            · skip
              refine tm_iconst X (0 : Int32) dX0_check_55 (by decide) ?_
              exact hk56 (0 : Int32)
            · skip
              refine tm_iconst X (1 : Int32) dX0_check_51 (by decide) ?_
              refine tm_goto X 56 dX0_check_52 rfl ?_
              exact hk56 (1 : Int32)
      · skip
        refine tm_lv X [] rfl ?_
        exact hk18
def mX0_keptOff (h : Hp)  : Option (Int32) :=
fx FU (fun _ _ => none) (fun k13 (x1_1 : Int32) (x4_2 : Int32) =>
if (48 : Int32) ≤ x4_2 then (
some x1_1) else (
ck x4_2 48 (
nm ((h 1 x4_2.toNatClampNeg)) (fun v3 =>
nm (fun (s4 : Int32) =>
nm ((x1_1 + s4)) (fun v5 =>
k13 v5 (x4_2 + (1 : Int32)))) (fun k36 =>
if v3 = 0 then (
k36 (0 : Int32)) else (
k36 (1 : Int32))))))) (0 : Int32) (0 : Int32)
theorem cyX0_keptOff : Callee yX0_keptOff 0 := by unfold Callee; decide +kernel
set_option maxHeartbeats 4000000 in
theorem ctX0_keptOff (l : Launch) (D : va_G) (ad : Nat → Nat) (dA : Nat → ClassId) (tt : (Nat → Option Nat) × (Nat → Option Nat) × va_W) (h : Hp)  (r : Int32) (hm : mX0_keptOff h = some r) : CT l yX0_keptOff cX0_keptOff 6 (some .int) D dA 0 0 0 0 (wX ad dA tt h) [.ref (ad 100)] (some (.int r)) (wX ad dA tt h) := by
  refine ct_open (by decide) (Nat.le_of_ble_eq_true rfl) ?_
  intro G X hI hZ hV hR
  have hRet := hI rfl r rfl
  refine (show TM G r (mX0_keptOff h) (wX ad dA tt h) 0 0 0 [(0, .ref (ad 100))] [] from ?_) hm
  clear hm hI hZ hV hR
  unfold mX0_keptOff
  refine tm_iconst X (0 : Int32) dX0_keptOff_0 (by decide) ?_
  refine tm_istore_n X [(1, .int (0 : Int32)), (0, .ref (ad 100))] dX0_keptOff_1 rfl (Nat.le_of_ble_eq_true rfl) rfl ?_
  refine tm_aload_n X 1 dX0_keptOff_2 rfl rfl ?_
  refine tm_getR X (frX_100_1 ad dA tt h) in_X0 rfl (Nat.le_of_ble_eq_true rfl) q235 rfl dX0_keptOff_3 ?_
  refine tm_astore_n X [(2, .ref (ad 1)), (1, .int (0 : Int32)), (0, .ref (ad 100))] dX0_keptOff_6 rfl (Nat.le_of_ble_eq_true rfl) rfl ?_
  refine tm_aload_n X 0 dX0_keptOff_7 rfl rfl ?_
  refine tm_arraylength (tt := 1) (v := (48 : Int32)) X (arX_1 ad dA tt) rfl (by decide) dX0_keptOff_8 ?_
  refine tm_istore_n X [(3, .int (48 : Int32)), (2, .ref (ad 1)), (1, .int (0 : Int32)), (0, .ref (ad 100))] dX0_keptOff_9 rfl (Nat.le_of_ble_eq_true rfl) rfl ?_
  refine tm_iconst X (0 : Int32) dX0_keptOff_10 (by decide) ?_
  refine tm_istore X [(4, .int (0 : Int32)), (3, .int (48 : Int32)), (2, .ref (ad 1)), (1, .int (0 : Int32)), (0, .ref (ad 100))] dX0_keptOff_11 (Nat.le_of_ble_eq_true rfl) rfl ?_
  refine tm_lv X [3, 2, 1, 0] rfl ?_
  refine fx_P (fun (k : Int32 → Int32 → Option (Int32)) => ∀ (x1_1 : Int32) (x4_2 : Int32), TM G r (k x1_1 x4_2) (wX ad dA tt h) 0 0 13 [(1, .int x1_1), (2, .ref (ad 1)), (3, .int (48 : Int32)), (4, .int x4_2)] []) (fun _ _ => tm_none) (fun k13 hk13 x1_1 x4_2 => ?_) FU (0 : Int32) (0 : Int32)
  refine tm_iload X 3 dX0_keptOff_13 rfl ?_
  refine tm_iload_n X 2 dX0_keptOff_15 rfl rfl ?_
  refine tm_ic_ge X 44 dX0_keptOff_16 rfl ?_ ?_
  · skip
    refine tm_iload_n X 0 dX0_keptOff_44 rfl rfl ?_
    exact tm_retI hRet dX0_keptOff_45
  · skip
    refine tm_aload_n X 1 dX0_keptOff_19 rfl rfl ?_
    refine tm_iload X 3 dX0_keptOff_20 rfl ?_
    refine tm_baloadZ X (arX_1 ad dA tt) dX0_keptOff_22 ?_
    refine tm_nmI (fun v3 => ?_)
    refine tm_istore X [(5, .int v3), (1, .int x1_1), (2, .ref (ad 1)), (3, .int (48 : Int32)), (4, .int x4_2)] dX0_keptOff_23 (Nat.le_of_ble_eq_true rfl) rfl ?_
    refine tm_iload_n X 1 dX0_keptOff_25 rfl rfl ?_
    refine tm_iload X 0 dX0_keptOff_26 rfl ?_
    refine tm_let (fun k => ∀ (s4 : Int32), TM G r (k s4) (wX ad dA tt h) 0 0 36 [(2, .ref (ad 1)), (3, .int (48 : Int32)), (4, .int x4_2)] [.int s4, .int x1_1]) ?_ (fun k36 hk36 => ?_)
    · intro s4
      refine tm_iadd X dX0_keptOff_36 ?_
      refine tm_nmI (fun v5 => ?_)
      refine tm_istore_n X [(1, .int v5), (2, .ref (ad 1)), (3, .int (48 : Int32)), (4, .int x4_2)] dX0_keptOff_37 rfl (Nat.le_of_ble_eq_true rfl) rfl ?_
      refine tm_iinc (v := (1 : Int32)) X 3 [(4, .int (x4_2 + (1 : Int32))), (1, .int v5), (2, .ref (ad 1)), (3, .int (48 : Int32))] dX0_keptOff_38 rfl (by decide) (Nat.le_of_ble_eq_true rfl) rfl ?_
      refine tm_goto X 13 dX0_keptOff_41 rfl ?_
      refine tm_lv X [1, 2, 3, 0] rfl ?_
      exact hk13 v5 (x4_2 + (1 : Int32))
    · skip
      refine tm_if_eq X 35 dX0_keptOff_28 rfl ?_ ?_
      · skip
        refine tm_iconst X (0 : Int32) dX0_keptOff_35 (by decide) ?_
        refine tm_lv X [2, 3, 4] rfl ?_
        exact hk36 (0 : Int32)
      · skip
        refine tm_iconst X (1 : Int32) dX0_keptOff_31 (by decide) ?_
        refine tm_goto X 36 dX0_keptOff_32 rfl ?_
        refine tm_lv X [2, 3, 4] rfl ?_
        exact hk36 (1 : Int32)
def mX0_count (h : Hp) (x1 : Int32) : Option (Int32) :=
if x1 = (0 : Int32) then (
some (h 40 2)) else (
if x1 = (1 : Int32) then (
some (h 100 4)) else (
if x1 = (2 : Int32) then (
some (h 70 3)) else (
if x1 = (3 : Int32) then (
some (h 100 10)) else (
if x1 = (4 : Int32) then (
some (h 40 3)) else (
if x1 = (5 : Int32) then (
cl1 (mX0_keptOff h) (fun r7 =>
some r7)) else (
if x1 = (6 : Int32) then (
some ((h 44 1) + (h 44 0))) else (
if x1 = (7 : Int32) then (
cl1 (mX3_opening 40 h (31 : Int32)) (fun r11 =>
some r11)) else (
some (-1 : Int32)))))))))
theorem cyX0_count : Callee yX0_count 1 := by unfold Callee; decide +kernel
set_option maxHeartbeats 4000000 in
theorem ctX0_count (l : Launch) (D : va_G) (ad : Nat → Nat) (dA : Nat → ClassId) (tt : (Nat → Option Nat) × (Nat → Option Nat) × va_W) (h : Hp) (x1 : Int32) (r : Int32) (hm : mX0_count h x1 = some r) : CT l yX0_count cX0_count 2 (some .int) D dA 5 108 0 0 (wX ad dA tt h) [.ref (ad 100), .int x1] (some (.int r)) (wX ad dA tt h) := by
  refine ct_open (by decide) (Nat.le_of_ble_eq_true rfl) ?_
  intro G X hI hZ hV hR
  have hRet := hI rfl r rfl
  refine (show TM G r (mX0_count h x1) (wX ad dA tt h) 0 0 0 [(0, .ref (ad 100)), (1, .int x1)] [] from ?_) hm
  clear hm hI hZ hV hR
  unfold mX0_count
  refine tm_iload_n X 1 dX0_count_0 rfl rfl ?_
  refine tm_sw (j := 0) (0 : Int32) 48 X dX0_count_1 (by decide) (by decide) rfl rfl ?_ (fun hs1 => ?_)
  · skip
    refine tm_aload_n X 0 dX0_count_48 rfl rfl ?_
    refine tm_getR X (frX_100_5 ad dA tt h) in_X0 rfl (Nat.le_of_ble_eq_true rfl) q242 rfl dX0_count_49 ?_
    refine tm_getIN X (fiX_40_2 ad dA tt) in_X3 rfl (Nat.le_of_ble_eq_true rfl) q183 rfl dX0_count_52 ?_
    exact tm_retI hRet dX0_count_55
  refine tm_sw (j := 1) (1 : Int32) 56 X dX0_count_1 (by decide) (by decide) rfl rfl ?_ (fun hs2 => ?_)
  · skip
    refine tm_aload_n X 0 dX0_count_56 rfl rfl ?_
    refine tm_getI X (fiX_100_4 ad dA tt) in_X0 rfl (Nat.le_of_ble_eq_true rfl) q241 rfl dX0_count_57 ?_
    exact tm_retI hRet dX0_count_60
  refine tm_sw (j := 2) (2 : Int32) 61 X dX0_count_1 (by decide) (by decide) rfl rfl ?_ (fun hs3 => ?_)
  · skip
    refine tm_aload_n X 0 dX0_count_61 rfl rfl ?_
    refine tm_getR X (frX_100_9 ad dA tt h) in_X0 rfl (Nat.le_of_ble_eq_true rfl) q249 rfl dX0_count_62 ?_
    refine tm_getIN X (fiX_70_3 ad dA tt) in_X4 rfl (Nat.le_of_ble_eq_true rfl) q221 rfl dX0_count_65 ?_
    exact tm_retI hRet dX0_count_68
  refine tm_sw (j := 3) (3 : Int32) 69 X dX0_count_1 (by decide) (by decide) rfl rfl ?_ (fun hs4 => ?_)
  · skip
    refine tm_aload_n X 0 dX0_count_69 rfl rfl ?_
    refine tm_getI X (fiX_100_10 ad dA tt) in_X0 rfl (Nat.le_of_ble_eq_true rfl) q250 rfl dX0_count_70 ?_
    exact tm_retI hRet dX0_count_73
  refine tm_sw (j := 4) (4 : Int32) 74 X dX0_count_1 (by decide) (by decide) rfl rfl ?_ (fun hs5 => ?_)
  · skip
    refine tm_aload_n X 0 dX0_count_74 rfl rfl ?_
    refine tm_getR X (frX_100_5 ad dA tt h) in_X0 rfl (Nat.le_of_ble_eq_true rfl) q242 rfl dX0_count_75 ?_
    refine tm_getIN X (fiX_40_3 ad dA tt) in_X3 rfl (Nat.le_of_ble_eq_true rfl) q185 rfl dX0_count_78 ?_
    exact tm_retI hRet dX0_count_81
  refine tm_sw (j := 5) (5 : Int32) 82 X dX0_count_1 (by decide) (by decide) rfl rfl ?_ (fun hs8 => ?_)
  · skip
    refine tm_aload_n X 0 dX0_count_82 rfl rfl ?_
    refine tm_cl1 (fun r7 e6 => ?_)
    refine tm_callVi (As := []) (rest := []) (q0 := 0) X (ctX0_keptOff l D ad dA tt h r7 e6) (lw_V q1177 q1179 qs48 q117 q1180) cyX0_keptOff rfl rfl rfl ⟨(Nat.le_of_ble_eq_true rfl), (Nat.le_of_ble_eq_true rfl)⟩ (Nat.le_of_ble_eq_true rfl) dX0_count_83 ⟨Nat.le_of_ble_eq_true rfl, Nat.le_of_ble_eq_true rfl⟩ rfl ?_
    exact tm_retI hRet dX0_count_86
  refine tm_sw (j := 6) (6 : Int32) 87 X dX0_count_1 (by decide) (by decide) rfl rfl ?_ (fun hs9 => ?_)
  · skip
    refine tm_aload_n X 0 dX0_count_87 rfl rfl ?_
    refine tm_getR X (frX_100_5 ad dA tt h) in_X0 rfl (Nat.le_of_ble_eq_true rfl) q242 rfl dX0_count_88 ?_
    refine tm_getRN X (frX_40_1 ad dA tt h) in_X3 rfl (Nat.le_of_ble_eq_true rfl) q181 rfl dX0_count_91 ?_
    refine tm_iconst X (1 : Int32) dX0_count_94 (by decide) ?_
    refine tm_ialoadL (j := 1) X (arX_44 ad dA tt) (by unfold vp_in; decide) (by decide) dX0_count_95 ?_
    refine tm_aload_n X 0 dX0_count_96 rfl rfl ?_
    refine tm_getR X (frX_100_5 ad dA tt h) in_X0 rfl (Nat.le_of_ble_eq_true rfl) q242 rfl dX0_count_97 ?_
    refine tm_getRN X (frX_40_1 ad dA tt h) in_X3 rfl (Nat.le_of_ble_eq_true rfl) q181 rfl dX0_count_100 ?_
    refine tm_iconst X (0 : Int32) dX0_count_103 (by decide) ?_
    refine tm_ialoadL (j := 0) X (arX_44 ad dA tt) (by unfold vp_in; decide) (by decide) dX0_count_104 ?_
    refine tm_iadd X dX0_count_105 ?_
    exact tm_retI hRet dX0_count_106
  refine tm_sw (j := 7) (7 : Int32) 107 X dX0_count_1 (by decide) (by decide) rfl rfl ?_ (fun hs12 => ?_)
  · skip
    refine tm_aload_n X 0 dX0_count_107 rfl rfl ?_
    refine tm_getR X (frX_100_5 ad dA tt h) in_X0 rfl (Nat.le_of_ble_eq_true rfl) q242 rfl dX0_count_108 ?_
    refine tm_bipush X (31 : Int32) dX0_count_111 (by decide) ?_
    refine tm_cl1 (fun r11 e10 => ?_)
    refine tm_callVi (As := [.int (31 : Int32)]) (rest := []) (q0 := 3) X (ctX3_opening_40 l D ad dA tt h (31 : Int32) r11 e10) (lw_V q833 q819 q820 q120 q821) cyX3_opening rfl rfl rfl ⟨(Nat.le_of_ble_eq_true rfl), (Nat.le_of_ble_eq_true rfl)⟩ (Nat.le_of_ble_eq_true rfl) dX0_count_113 ⟨Nat.le_of_ble_eq_true rfl, Nat.le_of_ble_eq_true rfl⟩ rfl ?_
    exact tm_retI hRet dX0_count_116
  refine tm_swd 117 X dX0_count_1 (by have := ne_toInt hs1 (n := 0) (by decide); have := ne_toInt hs2 (n := 1) (by decide); have := ne_toInt hs3 (n := 2) (by decide); have := ne_toInt hs4 (n := 3) (by decide); have := ne_toInt hs5 (n := 4) (by decide); have := ne_toInt hs8 (n := 5) (by decide); have := ne_toInt hs9 (n := 6) (by decide); have := ne_toInt hs12 (n := 7) (by decide); omega) rfl ?_
  refine tm_iconst X (-1 : Int32) dX0_count_117 (by decide) ?_
  exact tm_retI hRet dX0_count_118
