/-! Reader: a factor -/
set_option maxRecDepth 100000
/-- how a sum's piece ends: good (a run of the machine, codes, value) or bad -/
def GG (t : Nat → Nat) (n a o : Nat) (S K : List Nat) (q : Zq) (E : Nat → Prop) (a' f p : Nat) (C : List Nat) (F : VF) (e : Nat) : Prop := (f = 0 ∧ p = 0 ∧ Rn t n (1, a, o, S, K, q) (2, a', o, S, K ++ C, q) ∧ (∀ b, Sg C b F) ∧ a < a' ∧ a' ≤ n ∧ e = a' ∧ C.length + a ≤ a' ∧ E a') ∨ (0 < f ∧ Hz t n (1, a, o, S, K, q) (.inl (f, p)) ∧ e = n + 8 ∧ a' ≤ n + 1)
def QF (h : Hp) (n o a' f p d : Nat) (F : VF) : Hp → va_W → Option Nat → Prop := fun h' P x => Ex [90] h h' ∧ RS h' n a' o f p ∧ (f = 0 → ∃ y, x = some y ∧ SDn d P y F)
def QR (h : Hp) (n o a' f p d : Nat) (F : VF) : Hp → va_W → Option Nat → Prop := fun h' P x => Ex [90] h h' ∧ RS h' n a' o f p ∧ (f = 0 → ∃ y, x = some y ∧ SDn d P y F) ∧ ∃ y fs, x = some y ∧ (y, .inr (6, fs)) ∈ P
theorem tm_w0 {G : Gty} {l : Launch} {cc : ByteArray} {nL : Nat} {own : String} {D : va_G} {dA : Nat → ClassId} {fr lo mc ms : Nat} {ρ : Type} {res : ρ} {M : Option ρ} {ce sl pc : Nat} {lv : List (Nat × Value)} {st : List Value} {ad ac : Nat → Nat} {tt : (Nat → Option Nat) × (Nat → Option Nat) × va_W} {sc : (Nat → Option Nat) × (Nat → Option Nat)} {h : Hp} (X : IsG G l cc nL own D dA fr lo mc ms) (k : TM G res M (wXP ad ac dA tt sc [] h) ce sl pc lv st) : TM G res M (wXR ad ac dA tt sc h) ce sl pc lv st := tm_eqw X (List.append_nil _).symm k
def FacT (o : Nat) : Prop := ∀ (t : Nat → Nat) (n a : Nat) (S K : List Nat) (q : Zq), (∀ i, t i < 256) → n ≤ 240 → a ≤ n → ∃ a' f p C F e, GG t n a o S K q (fun _ => True) a' f p C F e ∧ ∀ h, RS h n a o 0 0 → tX h = t → ∀ (l : Launch) (D : va_G) (dA : Nat → ClassId) (ad ac : Nat → Nat) (tt : (Nat → Option Nat) × (Nat → Option Nat) × va_W) (sc : (Nat → Option Nat) × (Nat → Option Nat)), CX_factor l D dA (10 + 3 * (6 - o)) (300 + 100 * (6 - o)) (4 * (e - a) - 3) (12 * (e - a) - 9) ad ac tt sc h (QF h n o a' f p (1 + 2 * (6 - o)) F)
def SumT (o : Nat) : Prop := ∀ (t : Nat → Nat) (n a : Nat) (S K : List Nat) (q : Zq), (∀ i, t i < 256) → n ≤ 240 → a ≤ n → (∀ s S', S = s :: S' → s = 14) → ∃ a' f p C F e, GG t n a o S K q (fun a' => sgn (hc t n a') = 0) a' f p C F e ∧ ∀ h, RS h n a o 0 0 → tX h = t → ∀ (l : Launch) (D : va_G) (dA : Nat → ClassId) (ad ac : Nat → Nat) (tt : (Nat → Option Nat) × (Nat → Option Nat) × va_W) (sc : (Nat → Option Nat) × (Nat → Option Nat)), CX_sum l D dA (12 + 3 * (6 - o)) (360 + 100 * (6 - o)) (4 * (e - a) - 1) (12 * (e - a) - 3) ad ac tt sc h (QR h n o a' f p (3 + 2 * (6 - o)) F)
section
variable {h : Hp} {n a o : Nat}
/-- [ with six open -/
theorem fac_6 (S : RS h n a 6 0 0) (ha : a ≤ n) (hc9 : hc (tX h) n a = 91) (l : Launch) (D : va_G) (dA : Nat → ClassId) (ad ac : Nat → Nat) (tt : (Nat → Option Nat) × (Nat → Option Nat) × va_W) (sc : (Nat → Option Nat) × (Nat → Option Nat)) (F : VF) : CX_factor l D dA 10 300 (4 * (n + 8 - a) - 3) (12 * (n + 8 - a) - 9) ad ac tt sc h (QF h n 6 (a + 1) 5 a 1 F) := by
  have hn := S.2.2.2.2.2.1
  refine ct_openE (by decide) (Nat.le_of_ble_eq_true rfl) ?_
  intro G X _ _ _ hR
  have hR := hR ⟨_, rfl⟩
  refine (show TM G () (some ()) (wXR ad ac dA tt sc h) 0 0 0 [(0, .ref (ac 90))] [] from ?_) rfl
  refine tm_w0 X ?_
  have S2 : RS (yA (yO (yF h 5 a))) n (a + 1) 7 5 a := RS_A (RS_O (RS_F S (by decide)) (by decide)) (by omega)
  have eo := Y_opens S
  rw [if_pos rfl] at eo
  refine tm_aload_n X 0 dX6_factor_0 rfl rfl ?_
  refine tm_rhere X (Y_here S) ⟨by omega, by omega⟩ (Nat.le_of_ble_eq_true rfl) dX6_factor_1 ⟨by omega, by omega⟩ ?_
  refine tm_istore_n X [(1, .int (nI (hc (tX h) n a))), (0, .ref (ac 90))] dX6_factor_4 rfl (Nat.le_of_ble_eq_true rfl) rfl ?_
  refine tm_iload_n X 0 dX6_factor_5 rfl rfl ?_
  refine tm_bipush X (91 : Int32) dX6_factor_6 (by decide) ?_
  refine tm_ic_neF X 56 (by rw [hc9]; rfl) dX6_factor_8 rfl ?_
  refine tm_aload_n X 1 dX6_factor_11 rfl rfl ?_
  refine tm_ropens X (eo) ⟨by omega, by omega⟩ (Nat.le_of_ble_eq_true rfl) dX6_factor_12 ⟨by omega, by omega⟩ ?_
  refine tm_aload_n X 1 dX6_factor_15 rfl rfl ?_
  refine tm_risGood X (Y_ill S2 (by decide)) ⟨by omega, by omega⟩ (Nat.le_of_ble_eq_true rfl) dX6_factor_16 ⟨by omega, by omega⟩ ?_
  refine tm_if_eqT X 29 (rfl) dX6_factor_19 rfl ?_
  refine tm_anull X dX6_factor_29 ?_
  refine tm_astore_nq X [(2, va_rf none), (1, .int (nI (hc (tX h) n a))), (0, .ref (ac 90))] dX6_factor_30 rfl (Nat.le_of_ble_eq_true rfl) rfl ?_
  refine tm_aload_n X 2 dX6_factor_31 rfl rfl ?_
  refine tm_risGood X (Y_ill S2 (by decide)) ⟨by omega, by omega⟩ (Nat.le_of_ble_eq_true rfl) dX6_factor_32 ⟨by omega, by omega⟩ ?_
  refine tm_if_eqT X 44 (rfl) dX6_factor_35 rfl ?_
  refine tm_aload_n X 2 dX6_factor_44 rfl rfl ?_
  refine tm_dup X dX6_factor_45 rfl ?_
  refine tm_ropen X dX6_factor_46 ?_
  refine tm_iconst X (1 : Int32) dX6_factor_49 (by decide) ?_
  refine tm_isub X dX6_factor_50 ?_
  refine tm_rputopen X dX6_factor_51 ?_
  refine tm_aload_nq X 0 dX6_factor_54 rfl rfl ?_
  exact tm_rret X hR ⟨Ex_yD (Ex_yA (Ex_yO (Ex_yF (Ex_r _ _)))), RS_D S2, fun e => by cases e⟩ dX6_factor_55 ⟨by omega, by omega⟩
/-- a number -/
theorem fac_n (S : RS h n a o 0 0) (ha : a ≤ n) (h91 : 48 ≤ hc (tX h) n a ∧ hc (tX h) n a ≤ 57) (l : Launch) (D : va_G) (dA : Nat → ClassId) (ad ac : Nat → Nat) (tt : (Nat → Option Nat) × (Nat → Option Nat) × va_W) (sc : (Nat → Option Nat) × (Nat → Option Nat)) (fr lo mc ms : Nat) (hb : 10 ≤ fr ∧ 300 ≤ lo ∧ 1 ≤ mc ∧ 3 ≤ ms) {h' : Hp} {r : Int32} (e : mX6_number h = some (r, h')) {Q : Hp → va_W → Option Nat → Prop} (hQ : ∀ P y, (y, .inr (7, [.int r])) ∈ P → Q h' P (some y)) : CX_factor l D dA fr lo mc ms ad ac tt sc h Q := by
  have hn := S.2.2.2.2.2.1
  refine ct_openE (by decide) (Nat.le_of_ble_eq_true rfl) ?_
  intro G X _ _ _ hR
  have hR := hR ⟨_, rfl⟩
  refine (show TM G () (some ()) (wXR ad ac dA tt sc h) 0 0 0 [(0, .ref (ac 90))] [] from ?_) rfl
  refine tm_w0 X ?_
  have h256 := hc_lt (t := tX h) (fun i => oct_lt _) n a
  refine tm_aload_n X 0 dX6_factor_0 rfl rfl ?_
  refine tm_rhere X (Y_here S) ⟨by omega, by omega⟩ (Nat.le_of_ble_eq_true rfl) dX6_factor_1 ⟨by omega, by omega⟩ ?_
  refine tm_istore_n X [(1, .int (nI (hc (tX h) n a))), (0, .ref (ac 90))] dX6_factor_4 rfl (Nat.le_of_ble_eq_true rfl) rfl ?_
  refine tm_iload_n X 0 dX6_factor_5 rfl rfl ?_
  refine tm_bipush X (91 : Int32) dX6_factor_6 (by decide) ?_
  refine tm_ic_neT X 56 (fun e => by have := (l_eq (N := 91) (c := 91) rfl (by decide) (by omega)).mp e; omega) dX6_factor_8 rfl ?_
  refine tm_aload_n X 1 dX6_factor_56 rfl rfl ?_
  refine tm_rseesDigit X (Y_digit S) ⟨by omega, by omega⟩ (Nat.le_of_ble_eq_true rfl) dX6_factor_57 ⟨by omega, by omega⟩ ?_
  refine tm_if_eqF X 75 (by rw [decide_eq_true h91]; decide) dX6_factor_60 rfl ?_
  refine tm_newNum X ⟨by omega, by omega⟩ dX6_factor_63 (fun q => ?_)
  refine tm_dup X dX6_factor_66 rfl ?_
  refine tm_aload_n X 1 dX6_factor_67 rfl rfl ?_
  refine tm_rnumber X (e) ⟨by omega, by omega⟩ (Nat.le_of_ble_eq_true rfl) dX6_factor_68 ⟨by omega, by omega⟩ ?_
  refine tm_initNum X ⟨by omega, by omega⟩ (Nat.le_of_ble_eq_true rfl) dX6_factor_71 ⟨by omega, by omega⟩ ?_
  exact tm_rret1 X hR (hQ _ q (by simp)) dX6_factor_74 ⟨by omega, by omega⟩
theorem ixu_t : ∀ c : Fin 256, mJ0_indexOf_s1 (nI c.val) = some (match fac c.val with | some d => nI d | none => -1) := by decide +kernel
theorem Y_ixu {c : Nat} (h : c < 256) : mJ0_indexOf_s1 (nI c) = some (match fac c with | some d => nI d | none => -1) := ixu_t ⟨c, h⟩
/-- a letter, or none -/
theorem fac_l (S : RS h n a o 0 0) (ha : a ≤ n) (h91 : hc (tX h) n a ≠ 91) (hd : ¬ (48 ≤ hc (tX h) n a ∧ hc (tX h) n a ≤ 57)) (l : Launch) (D : va_G) (dA : Nat → ClassId) (ad ac : Nat → Nat) (tt : (Nat → Option Nat) × (Nat → Option Nat) × va_W) (sc : (Nat → Option Nat) × (Nat → Option Nat)) (fr lo mc ms : Nat) (hb : 10 ≤ fr ∧ 300 ≤ lo ∧ 1 ≤ mc ∧ 3 ≤ ms) {Q : Hp → va_W → Option Nat → Prop} (hQ : ∀ P y, (y, .inr (8, [.int (nI (hc (tX h) n a))])) ∈ P → Q (yA (if (fac (hc (tX h) n a)).isSome then h else yF h 1 a)) P (some y)) : CX_factor l D dA fr lo mc ms ad ac tt sc h Q := by
  have hn := S.2.2.2.2.2.1
  refine ct_openE (by decide) (Nat.le_of_ble_eq_true rfl) ?_
  intro G X _ _ _ hR
  have hR := hR ⟨_, rfl⟩
  refine (show TM G () (some ()) (wXR ad ac dA tt sc h) 0 0 0 [(0, .ref (ac 90))] [] from ?_) rfl
  refine tm_w0 X ?_
  have h256 := hc_lt (t := tX h) (fun i => oct_lt _) n a
  refine tm_aload_n X 0 dX6_factor_0 rfl rfl ?_
  refine tm_rhere X (Y_here S) ⟨by omega, by omega⟩ (Nat.le_of_ble_eq_true rfl) dX6_factor_1 ⟨by omega, by omega⟩ ?_
  refine tm_istore_n X [(1, .int (nI (hc (tX h) n a))), (0, .ref (ac 90))] dX6_factor_4 rfl (Nat.le_of_ble_eq_true rfl) rfl ?_
  refine tm_iload_n X 0 dX6_factor_5 rfl rfl ?_
  refine tm_bipush X (91 : Int32) dX6_factor_6 (by decide) ?_
  refine tm_ic_neT X 56 (fun e => by have := (l_eq (N := 91) (c := 91) rfl (by decide) (by omega)).mp e; omega) dX6_factor_8 rfl ?_
  refine tm_aload_n X 1 dX6_factor_56 rfl rfl ?_
  refine tm_rseesDigit X (Y_digit S) ⟨by omega, by omega⟩ (Nat.le_of_ble_eq_true rfl) dX6_factor_57 ⟨by omega, by omega⟩ ?_
  refine tm_if_eqT X 75 (by rw [decide_eq_false hd]; rfl) dX6_factor_60 rfl ?_
  refine tm_iload_n X 0 dX6_factor_75 rfl rfl ?_
  have fin : ∀ h1, h1 = (if (fac (hc (tX h) n a)).isSome then h else yF h 1 a) → TM G () (some ()) (wXP ad ac dA tt sc [] h1) 0 0 97 [(1, .int (nI (hc (tX h) n a))), (0, .ref (ac 90))] [] := fun h1 e1 => by
    refine tm_aload_n X 1 dX6_factor_97 rfl rfl ?_
    refine tm_dup X dX6_factor_98 rfl ?_
    refine tm_rat X dX6_factor_99 ?_
    refine tm_iconst X (1 : Int32) dX6_factor_102 (by decide) ?_
    refine tm_iadd X dX6_factor_103 ?_
    refine tm_rputat X dX6_factor_104 ?_
    refine tm_newLet X ⟨by omega, by omega⟩ dX6_factor_107 (fun q => ?_)
    refine tm_dup X dX6_factor_110 rfl ?_
    refine tm_iload_n X 0 dX6_factor_111 rfl rfl ?_
    refine tm_initLet X ⟨by omega, by omega⟩ (Nat.le_of_ble_eq_true rfl) dX6_factor_112 ⟨by omega, by omega⟩ ?_
    exact tm_rret1 X hR (show Q (yA h1) _ _ by rw [e1]; exact hQ _ q (by simp)) dX6_factor_115 ⟨by omega, by omega⟩
  have ill : (fac (hc (tX h) n a)).isSome = false → TM G () (some ()) (wXP ad ac dA tt sc [] h) 0 0 88 [(1, .int (nI (hc (tX h) n a))), (0, .ref (ac 90))] [] := fun e1 => by
    refine tm_aload_n X 1 dX6_factor_88 rfl rfl ?_
    refine tm_iconst X (1 : Int32) dX6_factor_89 (by decide) ?_
    refine tm_aload_n X 1 dX6_factor_90 rfl rfl ?_
    refine tm_rat X dX6_factor_91 ?_
    rw [S.2.1]
    refine tm_rbad X (Y_bad0 S 1 a) ⟨by omega, by omega⟩ (Nat.le_of_ble_eq_true rfl) dX6_factor_94 ⟨by omega, by omega⟩ ?_
    exact fin _ (by rw [e1]; rfl)
  by_cases c0 : hc (tX h) n a = 0
  · refine tm_if_eqT X 88 (by rw [c0]; rfl) dX6_factor_76 rfl ?_
    exact ill (by rw [c0]; rfl)
  · refine tm_if_eqF X 88 (nI_ne0 (by omega) (by omega)) dX6_factor_76 rfl ?_
    refine tm_ldcS1 X rfl dX6_factor_79 ?_
    refine tm_iload_n X 0 dX6_factor_81 rfl rfl ?_
    refine tm_callVSi (i := 1) (As := [.int (nI (hc (tX h) n a))]) (rest := []) X (by decide) rfl rfl (ctJ0_indexOf_s1 l D dA _ _ (Y_ixu h256)) (lw_V q384 q385 q386 q124 q387) cyJ0_indexOf rfl ⟨by omega, by omega⟩ (Nat.le_of_ble_eq_true rfl) dX6_factor_82 ⟨by omega, by omega⟩ rfl ?_
    cases e1 : fac (hc (tX h) n a) with
    | some i =>
      have hi := (fac_s e1).2.1
      refine tm_if_geT X 97 (nI_pos' (by omega)) dX6_factor_85 rfl ?_
      exact fin _ (by rw [e1]; rfl)
    | none =>
      refine tm_if_geF X 97 (by decide) dX6_factor_85 rfl ?_
      exact ill (by rw [e1]; rfl)
/-- [ .. -/
theorem fac_b (S : RS h n a o 0 0) (ha : a < n) (ho : o < 6) (hc9 : hc (tX h) n a = 91) (l : Launch) (D : va_G) (dA : Nat → ClassId) (ad ac : Nat → Nat) (tt : (Nat → Option Nat) × (Nat → Option Nat) × va_W) (sc : (Nat → Option Nat) × (Nat → Option Nat)) (fr lo mc ms fr1 lo1 mc1 ms1 : Nat) (hb : 10 ≤ fr ∧ 300 ≤ lo ∧ fr1 + 1 ≤ fr ∧ 23 + lo1 ≤ lo ∧ mc1 ≤ mc ∧ ms1 ≤ ms) {a1 f1 p1 d : Nat} {F : VF} (hS : CX_sum l D dA fr1 lo1 mc1 ms1 ad ac tt sc (yA (yO h)) (QR (yA (yO h)) n (o + 1) a1 f1 p1 d F)) {Q : Hp → va_W → Option Nat → Prop} (hQ : ∀ h3 P x, Ex [90] h h3 → RS h3 n a1 (o + 1) f1 p1 → (f1 = 0 → ∃ y, x = some y ∧ SDn d P y F) → Q (yD (if f1 = 0 then yA (if hc (tX h) n a1 = 93 then h3 else yF h3 1 a1) else h3)) P x) : CX_factor l D dA fr lo mc ms ad ac tt sc h Q := by
  have hn := S.2.2.2.2.2.1
  refine ct_openE (by decide) (Nat.le_of_ble_eq_true rfl) ?_
  intro G X _ _ _ hR
  have hR := hR ⟨_, rfl⟩
  refine (show TM G () (some ()) (wXR ad ac dA tt sc h) 0 0 0 [(0, .ref (ac 90))] [] from ?_) rfl
  refine tm_w0 X ?_
  have eo := Y_opens S
  rw [if_neg (by omega)] at eo
  have S2 : RS (yA (yO h)) n (a + 1) (o + 1) 0 0 := RS_A (RS_O S (by omega)) (by omega)
  refine tm_aload_n X 0 dX6_factor_0 rfl rfl ?_
  refine tm_rhere X (Y_here S) ⟨by omega, by omega⟩ (Nat.le_of_ble_eq_true rfl) dX6_factor_1 ⟨by omega, by omega⟩ ?_
  refine tm_istore_n X [(1, .int (nI (hc (tX h) n a))), (0, .ref (ac 90))] dX6_factor_4 rfl (Nat.le_of_ble_eq_true rfl) rfl ?_
  refine tm_iload_n X 0 dX6_factor_5 rfl rfl ?_
  refine tm_bipush X (91 : Int32) dX6_factor_6 (by decide) ?_
  refine tm_ic_neF X 56 (by rw [hc9]; rfl) dX6_factor_8 rfl ?_
  refine tm_aload_n X 1 dX6_factor_11 rfl rfl ?_
  refine tm_ropens X (eo) ⟨by omega, by omega⟩ (Nat.le_of_ble_eq_true rfl) dX6_factor_12 ⟨by omega, by omega⟩ ?_
  refine tm_aload_n X 1 dX6_factor_15 rfl rfl ?_
  refine tm_risGood X (Y_good S2) ⟨by omega, by omega⟩ (Nat.le_of_ble_eq_true rfl) dX6_factor_16 ⟨by omega, by omega⟩ ?_
  refine tm_if_eqF X 29 (by decide) dX6_factor_19 rfl ?_
  refine tm_aload_n X 1 dX6_factor_22 rfl rfl ?_
  refine tm_rsum X hS ⟨by omega, by omega⟩ (Nat.le_of_ble_eq_true rfl) dX6_factor_23 ⟨by omega, by omega⟩ ?_
  rintro h3 P x ⟨q1, q2, q3, _⟩
  have E3 : Ex [90] h h3 := Ex_tt (Ex_yA (Ex_yO (Ex_r _ h))) q1
  have hh := Y_here q2
  rw [tX_9 E3 rfl] at hh
  rw [List.append_nil]
  refine tm_goto X 30 dX6_factor_26 rfl ?_
  refine tm_astore_nq X [(2, va_rf x), (1, .int (nI (hc (tX h) n a))), (0, .ref (ac 90))] dX6_factor_30 rfl (Nat.le_of_ble_eq_true rfl) rfl ?_
  refine tm_aload_n X 2 dX6_factor_31 rfl rfl ?_
  have fin : ∀ h4, h4 = (if f1 = 0 then yA (if hc (tX h) n a1 = 93 then h3 else yF h3 1 a1) else h3) → TM G () (some ()) (wXP ad ac dA tt sc P h4) (0 + mc1) (0 + ms1) 44 [(2, va_rf x), (1, .int (nI (hc (tX h) n a))), (0, .ref (ac 90))] [] := fun h4 e4 => by
    refine tm_aload_n X 2 dX6_factor_44 rfl rfl ?_
    refine tm_dup X dX6_factor_45 rfl ?_
    refine tm_ropen X dX6_factor_46 ?_
    refine tm_iconst X (1 : Int32) dX6_factor_49 (by decide) ?_
    refine tm_isub X dX6_factor_50 ?_
    refine tm_rputopen X dX6_factor_51 ?_
    refine tm_aload_nq X 0 dX6_factor_54 rfl rfl ?_
    exact tm_rret X hR (show Q (yD h4) _ _ by rw [e4]; exact hQ h3 P x E3 q2 q3) dX6_factor_55 ⟨by omega, by omega⟩
  by_cases c : f1 = 0
  · subst c
    have em := Y_must q2 (c := 93) (by decide)
    rw [tX_9 E3 rfl] at em
    have e0 : p1 = p1 := rfl
    refine tm_risGood X (Y_good q2) ⟨by omega, by omega⟩ (Nat.le_of_ble_eq_true rfl) dX6_factor_32 ⟨by omega, by omega⟩ ?_
    refine tm_if_eqF X 44 (by decide) dX6_factor_35 rfl ?_
    refine tm_aload_n X 2 dX6_factor_38 rfl rfl ?_
    refine tm_bipush X (93 : Int32) dX6_factor_39 (by decide) ?_
    refine tm_rmust X (em) ⟨by omega, by omega⟩ (Nat.le_of_ble_eq_true rfl) dX6_factor_41 ⟨by omega, by omega⟩ ?_
    exact fin _ (by rw [if_pos rfl])
  · refine tm_risGood X (Y_ill q2 (by omega)) ⟨by omega, by omega⟩ (Nat.le_of_ble_eq_true rfl) dX6_factor_32 ⟨by omega, by omega⟩ ?_
    refine tm_if_eqT X 44 (rfl) dX6_factor_35 rfl ?_
    exact fin _ (by rw [if_neg c])
end
theorem GG_b {t : Nat → Nat} {n a o : Nat} {S K : List Nat} {q : Zq} {E : Nat → Prop} {a' f p : Nat} {C : List Nat} {F : VF} (hf : 0 < f) (hz : Hz t n (1, a, o, S, K, q) (.inl (f, p))) (ha : a' ≤ n + 1) : GG t n a o S K q E a' f p C F (n + 8) := Or.inr ⟨hf, hz, rfl, ha⟩
theorem FacT_o {o : Nat} (ho : o ≤ 6) (IH : o < 6 → SumT (o + 1)) : FacT o := by
  intro t n a S K q ht hn ha
  have h256 := hc_lt ht n a
  by_cases c91 : hc t n a = 91
  · have han : a < n := hc_in (t := t) (by omega)
    by_cases c6 : o = 6
    · subst c6
      have ez : zS t n (1, a, 6, S, K, q) = .inl (.inl (5, a)) := by
        show zF t n a 6 S K q = _
        unfold zF
        rw [if_pos c91, if_pos rfl]
      refine ⟨a + 1, 5, a, [], fun _ => none, n + 8, GG_b (by decide) (Hz_s ez) (by omega), ?_⟩
      intro h R0 et l D dA ad ac tt sc
      subst et
      exact fac_6 R0 ha c91 l D dA ad ac tt sc _
    · have ez : zS t n (1, a, o, S, K, q) = .inr (1, a + 1, o + 1, 14 :: S, K, q) := by
        show zF t n a o S K q = _
        unfold zF
        rw [if_pos c91, if_neg c6]
      obtain ⟨a1, f1, p1, C, F, e, hG, hC⟩ := IH (by omega) t n (a + 1) (14 :: S) K q ht hn (by omega) (fun s S' e => by cases e; rfl)
      rcases hG with ⟨g1, g2, g3, g4, g5, g6, g7, gl, g8⟩ | ⟨g1, g2, g3, g4⟩
      · subst g1 g2
        have run := Rn_t (Rn_s ez) g3
        by_cases c93 : hc t n a1 = 93
        · have ha1 : a1 < n := hc_in (t := t) (by omega)
          have ez2 : zS t n (2, a1, o + 1, 14 :: S, K ++ C, q) = .inr (2, a1 + 1, o, S, K ++ C, q) := by
            show zA t n a1 (o + 1) (14 :: S) (K ++ C) q = _
            unfold zA
            dsimp only
            rw [if_neg (by omega), if_neg (by omega), if_pos c93]
            rfl
          refine ⟨a1 + 1, 0, 0, C, F, a1 + 1, Or.inl ⟨rfl, rfl, Rn_t run (Rn_s ez2), g4, by omega, by omega, rfl, by omega, trivial⟩, ?_⟩
          intro h R0 et l D dA ad ac tt sc
          subst et
          refine fac_b R0 han (by omega) c91 l D dA ad ac tt sc _ _ _ _ _ _ _ _ ⟨by omega, by omega, by omega, by omega, by omega, by omega⟩ (hC (yA (yO h)) (RS_A (RS_O R0 (by omega)) (by omega)) rfl l D dA ad ac tt sc) (fun h3 P x E3 q2 q3 => ?_)
          rw [if_pos rfl, if_pos c93]
          refine ⟨Ex_yD (Ex_yA E3), RS_D (RS_A q2 (by omega)), fun _ => ?_⟩
          obtain ⟨y, y1, y2⟩ := q3 rfl
          exact ⟨y, y1, SDn_m y2 (by omega) (fun _ h => h)⟩
        · have ez2 : zS t n (2, a1, o + 1, 14 :: S, K ++ C, q) = .inl (.inl (1, a1)) := by
            show zA t n a1 (o + 1) (14 :: S) (K ++ C) q = _
            unfold zA
            dsimp only
            rw [if_neg (by omega), if_neg (by omega), if_neg c93]
          refine ⟨a1 + 1, 1, a1, [], fun _ => none, n + 8, GG_b (by decide) (run _ (Hz_s ez2)) (by omega), ?_⟩
          intro h R0 et l D dA ad ac tt sc
          subst et
          refine fac_b R0 han (by omega) c91 l D dA ad ac tt sc _ _ _ _ _ _ _ _ ⟨by omega, by omega, by omega, by omega, by omega, by omega⟩ (hC (yA (yO h)) (RS_A (RS_O R0 (by omega)) (by omega)) rfl l D dA ad ac tt sc) (fun h3 P x E3 q2 q3 => ?_)
          rw [if_pos rfl, if_neg c93]
          exact ⟨Ex_yD (Ex_yA (Ex_yF E3)), RS_D (RS_A (RS_F q2 (by decide)) (by omega)), fun e => by cases e⟩
      · subst g3
        refine ⟨a1, f1, p1, [], fun _ => none, n + 8, GG_b g1 (Rn_s ez _ g2) g4, ?_⟩
        intro h R0 et l D dA ad ac tt sc
        subst et
        refine fac_b R0 han (by omega) c91 l D dA ad ac tt sc _ _ _ _ _ _ _ _ ⟨by omega, by omega, by omega, by omega, by omega, by omega⟩ (hC (yA (yO h)) (RS_A (RS_O R0 (by omega)) (by omega)) rfl l D dA ad ac tt sc) (fun h3 P x E3 q2 q3 => ?_)
        rw [if_neg (by omega)]
        exact ⟨Ex_yD E3, RS_D q2, fun e => by omega⟩
  · by_cases cd : 48 ≤ hc t n a ∧ hc t n a ≤ 57
    · have han : a < n := hc_in (t := t) (by omega)
      have b1 := nmb_b (t := t) (n := n) 5 a 0
      have b2 := nmb_b (t := t) (n := n) 4 (a + 1) (10 * 0 + (hc t n a - 48))
      have e54 : nmb t n 5 a 0 = nmb t n 4 (a + 1) (10 * 0 + (hc t n a - 48)) := by
        conv => lhs; unfold nmb
        rw [if_pos cd]
      rw [← e54] at b2
      cases eN : nmb t n 5 a 0 with
      | inl p =>
        rw [eN] at b1 b2
        dsimp only at b1 b2
        have ez : zS t n (1, a, o, S, K, q) = .inl (.inl (2, p)) := by
          show zF t n a o S K q = _
          unfold zF
          rw [if_neg c91, if_pos cd, eN]
        refine ⟨p + 1, 2, p, [], fun _ => none, n + 8, GG_b (by decide) (Hz_s ez) (by omega), ?_⟩
        intro h R0 et l D dA ad ac tt sc
        subst et
        obtain ⟨⟨r, h'⟩, e, E1, hZ⟩ := Y_number R0 (by omega)
        rw [eN] at hZ
        dsimp only at E1 hZ
        exact fac_n R0 ha cd l D dA ad ac tt sc _ _ _ _ ⟨by omega, by omega, by omega, by omega⟩ e (fun P y hy => ⟨E1, hZ, fun e => by cases e⟩)
      | inr z =>
        obtain ⟨v, a'⟩ := z
        rw [eN] at b1 b2
        dsimp only at b1 b2
        have hv : v < uN := by
          unfold uN
          omega
        have ez : zS t n (1, a, o, S, K, q) = .inr (2, a', o, S, K ++ [v], q) := by
          show zF t n a o S K q = _
          unfold zF
          rw [if_neg c91, if_pos cd, eN]
        refine ⟨a', 0, 0, [v], _, a', Or.inl ⟨rfl, rfl, Rn_s ez, fun b => Sg_num hv, by omega, by omega, rfl, (by show 1 + a ≤ _; omega), trivial⟩, ?_⟩
        intro h R0 et l D dA ad ac tt sc
        subst et
        obtain ⟨⟨r, h'⟩, e, E1, hZ⟩ := Y_number R0 (by omega)
        rw [eN] at hZ
        dsimp only at E1 hZ
        obtain ⟨z1, z2⟩ := hZ
        subst z1
        exact fac_n R0 ha cd l D dA ad ac tt sc _ _ _ _ ⟨by omega, by omega, by omega, by omega⟩ e (fun P y hy => ⟨E1, z2, fun _ => ⟨y, rfl, SDn_m (SDn_num hy) (by omega) (fun _ h => h)⟩⟩)
    · cases ef : fac (hc t n a) with
      | some i =>
        have fs := fac_s ef
        have han : a < n := hc_in (t := t) (by omega)
        have ez : zS t n (1, a, o, S, K, q) = .inr (2, a + 1, o, S, K ++ [uN + i], q) := by
          show zF t n a o S K q = _
          unfold zF
          rw [if_neg c91, if_neg cd, ef]
        refine ⟨a + 1, 0, 0, [uN + i], _, a + 1, Or.inl ⟨rfl, rfl, Rn_s ez, fun b => Sg_let fs.2.1, by omega, by omega, rfl, (by show 1 + a ≤ _; omega), trivial⟩, ?_⟩
        intro h R0 et l D dA ad ac tt sc
        subst et
        refine fac_l R0 ha c91 cd l D dA ad ac tt sc _ _ _ _ ⟨by omega, by omega, by omega, by omega⟩ (fun P y hy => ?_)
        rw [ef]
        exact ⟨Ex_yA (Ex_r _ h), RS_A R0 (by omega), fun _ => ⟨y, rfl, SDn_m (SDn_let ef hy) (by omega) (fun _ h => h)⟩⟩
      | none =>
        have ez : zS t n (1, a, o, S, K, q) = .inl (.inl (1, a)) := by
          show zF t n a o S K q = _
          unfold zF
          rw [if_neg c91, if_neg cd, ef]
        refine ⟨a + 1, 1, a, [], fun _ => none, n + 8, GG_b (by decide) (Hz_s ez) (by omega), ?_⟩
        intro h R0 et l D dA ad ac tt sc
        subst et
        refine fac_l R0 ha c91 cd l D dA ad ac tt sc _ _ _ _ ⟨by omega, by omega, by omega, by omega⟩ (fun P y hy => ?_)
        rw [ef]
        exact ⟨Ex_yA (Ex_yF (Ex_r _ h)), RS_A (RS_F R0 (by decide)) (by omega), fun e => by cases e⟩
