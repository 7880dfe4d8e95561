/-! Reader: a piece of a condition -/
set_option maxRecDepth 100000
abbrev Zv : Type := (Nat × Nat × Nat) × List (Nat × Nat × Nat × Nat)
def GC (t : Nat → Nat) (n : Nat) (s0 : Zs) (a o : Nat) (K W : List Nat) (v : Zv) (a' f p : Nat) (C : List Nat) (G : VF) (e : Nat) : Prop := (f = 0 ∧ p = 0 ∧ (∃ g', Rn t n s0 (5, a', o, [], K ++ C, (g', W, v))) ∧ Sg C K.length G ∧ a < a' ∧ a' ≤ n ∧ e = a' ∧ C.length + a ≤ a') ∨ (0 < f ∧ Hz t n s0 (.inl (f, p)) ∧ e = n + 9 ∧ a' ≤ n + 2)
def GS (t : Nat → Nat) (n : Nat) (s0 : Zs) (a o : Nat) (K W : List Nat) (v : Zv) (a' f p : Nat) (C : List Nat) (G : VF) (e : Nat) : Prop := (f = 0 ∧ p = 0 ∧ a < a' ∧ a' ≤ n ∧ e = a' ∧ (((∃ g', Rn t n s0 (5, a', o, [], K ++ C, (g', W, v))) ∧ Sg C K.length G ∧ C.length + a ≤ a' ∧ (hc t n a' = 124 ∨ hc t n a' = 41)) ∨ (Hz t n s0 (.inl (1, a')) ∧ hc t n a' ≠ 38 ∧ hc t n a' ≠ 124 ∧ hc t n a' ≠ 41))) ∨ (0 < f ∧ Hz t n s0 (.inl (f, p)) ∧ e = n + 9 ∧ a' ≤ n + 2)
def QC (h : Hp) (n o a' f p d : Nat) (G : VF) : Hp → va_W → Option Nat → Prop := fun h' P x => Ex [90] h h' ∧ RS h' n a' o f p ∧ (f = 0 → ∃ y, x = some y ∧ CDn d P y G)
def QS (h : Hp) (n o a' f p d : Nat) (G : VF) : Hp → va_W → Option Nat → Prop := fun h' P x => Ex [90] h h' ∧ RS h' n a' o f p ∧ (f = 0 → ∃ y, x = some y ∧ CDn d P y G) ∧ ∀ y, x = some y → ∃ fs, (y, .inr (9, fs)) ∈ P
def PieT (o : Nat) : Prop := ∀ (t : Nat → Nat) (n a : Nat) (K : List Nat) (g : Nat) (W : List Nat) (v : Zv), (∀ i, t i < 256) → n ≤ 240 → a ≤ n → K.length ≤ a → ∃ a' f p C G e, GC t n (4, a, o, [], K, (g, W, v)) a o K W v a' f p C G e ∧ ∀ h, RS h n a o 0 0 → tX h = t → ∀ (l : Launch) (D : va_G) (dA : Nat → ClassId) (ad ac : Nat → Nat) (tt : (Nat → Option Nat) × (Nat → Option Nat) × va_W) (sc : (Nat → Option Nat) × (Nat → Option Nat)), CX_piece l D dA (40 + 3 * (6 - o)) (1100 + 120 * (6 - o)) (4 * (e - a) - 3) (12 * (e - a) - 9) ad ac tt sc h (QC h n o a' f p (1 + 2 * (6 - o)) G)
def PcsT (o : Nat) : Prop := ∀ (t : Nat → Nat) (n a : Nat) (K : List Nat) (g : Nat) (W : List Nat) (v : Zv), (∀ i, t i < 256) → n ≤ 240 → a ≤ n → K.length ≤ a → (∃ w W', W = w :: W' ∧ (w / uN = 12 ∨ w / uN = 13)) → ∃ a' f p C G e, GS t n (4, a, o, [], K, (g, W, v)) a o K W v a' f p C G e ∧ ∀ h, RS h n a o 0 0 → tX h = t → ∀ (l : Launch) (D : va_G) (dA : Nat → ClassId) (ad ac : Nat → Nat) (tt : (Nat → Option Nat) × (Nat → Option Nat) × va_W) (sc : (Nat → Option Nat) × (Nat → Option Nat)), CX_pieces l D dA (41 + 3 * (6 - o)) (1130 + 120 * (6 - o)) (4 * (e - a) - 2) (12 * (e - a) - 6) ad ac tt sc h (QS h n o a' f p (2 + 2 * (6 - o)) G)
def ConT (o : Nat) : Prop := ∀ (t : Nat → Nat) (n a : Nat) (K : List Nat) (W : List Nat) (v : Zv) (s0 : Zs), (∀ i, t i < 256) → n ≤ 240 → a ≤ n → K.length ≤ a → hc t n a = 40 → (o = 6 → Hz t n s0 (.inl (5, a))) → (o ≠ 6 → Rn t n s0 (4, a + 1, o + 1, [], K, (1, 13 * uN :: W, v))) → ∃ a' f p C G e, GC t n s0 a o K W v a' f p C G e ∧ ∀ h, RS h n a o 0 0 → tX h = t → ∀ (l : Launch) (D : va_G) (dA : Nat → ClassId) (ad ac : Nat → Nat) (tt : (Nat → Option Nat) × (Nat → Option Nat) × va_W) (sc : (Nat → Option Nat) × (Nat → Option Nat)), CX_condition l D dA (39 + 3 * (6 - o)) (1040 + 120 * (6 - o)) (4 * (e - a) - 3) (12 * (e - a) - 9) ad ac tt sc h (QS h n o a' f p (1 + 2 * (6 - o)) G)
section
variable {h : Hp} {n a o : Nat}
/-- ! -/
theorem pie_6 (S : RS h n a 6 0 0) (ha : a ≤ n) (hc9 : hc (tX h) n a = 33) (l : Launch) (D : va_G) (dA : Nat → ClassId) (ad ac : Nat → Nat) (tt : (Nat → Option Nat) × (Nat → Option Nat) × va_W) (sc : (Nat → Option Nat) × (Nat → Option Nat)) (fr lo mc ms : Nat) (hb : 30 ≤ fr ∧ 1000 ≤ lo ∧ 1 ≤ mc ∧ 3 ≤ ms) {Q : Hp → va_W → Option Nat → Prop} (hQ : ∀ P y, Q (yD (yA (yO (yF h 5 a)))) P (some y)) : CX_piece l D dA fr lo mc ms ad ac tt sc h Q := by
  have hn := S.2.2.2.2.2.1
  refine ct_openE (by decide) (Nat.le_of_ble_eq_true rfl) ?_
  intro G X _ _ _ hR
  have hR := hR ⟨_, rfl⟩
  refine (show TM G () (some ()) (wXR ad ac dA tt sc h) 0 0 0 [(0, .ref (ac 90))] [] from ?_) rfl
  refine tm_w0 X ?_
  have S2 : RS (yA (yO (yF h 5 a))) n (a + 1) 7 5 a := RS_A (RS_O (RS_F S (by decide)) (by decide)) (by omega)
  have eo := Y_opens S
  rw [if_pos rfl] at eo
  refine tm_aload_n X 0 dX6_piece_0 rfl rfl ?_
  refine tm_rhere X (Y_here S) ⟨by omega, by omega⟩ (Nat.le_of_ble_eq_true rfl) dX6_piece_1 ⟨by omega, by omega⟩ ?_
  refine tm_istore_n X [(1, .int (nI (hc (tX h) n a))), (0, .ref (ac 90))] dX6_piece_4 rfl (Nat.le_of_ble_eq_true rfl) rfl ?_
  refine tm_iload_n X 0 dX6_piece_5 rfl rfl ?_
  refine tm_bipush X (33 : Int32) dX6_piece_6 (by decide) ?_
  refine tm_ic_neF X 50 (by rw [hc9]; rfl) dX6_piece_8 rfl ?_
  refine tm_aload_n X 1 dX6_piece_11 rfl rfl ?_
  refine tm_ropens X (eo) ⟨by omega, by omega⟩ (Nat.le_of_ble_eq_true rfl) dX6_piece_12 ⟨by omega, by omega⟩ ?_
  refine tm_aload_n X 1 dX6_piece_15 rfl rfl ?_
  refine tm_risGood X (Y_ill S2 (by decide)) ⟨by omega, by omega⟩ (Nat.le_of_ble_eq_true rfl) dX6_piece_16 ⟨by omega, by omega⟩ ?_
  refine tm_if_eqT X 29 (rfl) dX6_piece_19 rfl ?_
  refine tm_anull X dX6_piece_29 ?_
  refine tm_astore_nq X [(2, va_rf none), (1, .int (nI (hc (tX h) n a))), (0, .ref (ac 90))] dX6_piece_30 rfl (Nat.le_of_ble_eq_true rfl) rfl ?_
  refine tm_aload_n X 2 dX6_piece_31 rfl rfl ?_
  refine tm_dup X dX6_piece_32 rfl ?_
  refine tm_ropen X dX6_piece_33 ?_
  refine tm_iconst X (1 : Int32) dX6_piece_36 (by decide) ?_
  refine tm_isub X dX6_piece_37 ?_
  refine tm_rputopen X dX6_piece_38 ?_
  refine tm_newNot X ⟨by omega, by omega⟩ dX6_piece_41 (fun q => ?_)
  refine tm_dup X dX6_piece_44 rfl ?_
  refine tm_aload_nq X 0 dX6_piece_45 rfl rfl ?_
  refine tm_initNot X ⟨by omega, by omega⟩ (Nat.le_of_ble_eq_true rfl) dX6_piece_46 ⟨by omega, by omega⟩ ?_
  exact tm_rret1 X hR (hQ _ q) dX6_piece_49 ⟨by omega, by omega⟩
theorem pie_n (S : RS h n a o 0 0) (ha : a < n) (ho : o < 6) (hc9 : hc (tX h) n a = 33) (l : Launch) (D : va_G) (dA : Nat → ClassId) (ad ac : Nat → Nat) (tt : (Nat → Option Nat) × (Nat → Option Nat) × va_W) (sc : (Nat → Option Nat) × (Nat → Option Nat)) (fr lo mc ms fr1 lo1 mc1 ms1 : Nat) (hb : 30 ≤ fr ∧ 1000 ≤ lo ∧ fr1 + 1 ≤ fr ∧ 30 + lo1 ≤ lo ∧ mc1 + 1 ≤ mc ∧ ms1 + 3 ≤ ms) {a1 f1 p1 d : Nat} {F : VF} (hS : CX_piece l D dA fr1 lo1 mc1 ms1 ad ac tt sc (yA (yO h)) (QC (yA (yO h)) n (o + 1) a1 f1 p1 d F)) {Q : Hp → va_W → Option Nat → Prop} (hQ : ∀ h3 P x y, Ex [90] h h3 → RS h3 n a1 (o + 1) f1 p1 → (f1 = 0 → ∃ y, x = some y ∧ CDn d P y F) → Q (yD h3) (P ++ [(y, .inr (10, [va_rf x]))]) (some y)) : CX_piece l D dA fr lo mc ms ad ac tt sc h Q := by
  have hn := S.2.2.2.2.2.1
  refine ct_openE (by decide) (Nat.le_of_ble_eq_true rfl) ?_
  intro G X _ _ _ hR
  have hR := hR ⟨_, rfl⟩
  refine (show TM G () (some ()) (wXR ad ac dA tt sc h) 0 0 0 [(0, .ref (ac 90))] [] from ?_) rfl
  refine tm_w0 X ?_
  have eo := Y_opens S
  rw [if_neg (by omega)] at eo
  have S2 : RS (yA (yO h)) n (a + 1) (o + 1) 0 0 := RS_A (RS_O S (by omega)) (by omega)
  refine tm_aload_n X 0 dX6_piece_0 rfl rfl ?_
  refine tm_rhere X (Y_here S) ⟨by omega, by omega⟩ (Nat.le_of_ble_eq_true rfl) dX6_piece_1 ⟨by omega, by omega⟩ ?_
  refine tm_istore_n X [(1, .int (nI (hc (tX h) n a))), (0, .ref (ac 90))] dX6_piece_4 rfl (Nat.le_of_ble_eq_true rfl) rfl ?_
  refine tm_iload_n X 0 dX6_piece_5 rfl rfl ?_
  refine tm_bipush X (33 : Int32) dX6_piece_6 (by decide) ?_
  refine tm_ic_neF X 50 (by rw [hc9]; rfl) dX6_piece_8 rfl ?_
  refine tm_aload_n X 1 dX6_piece_11 rfl rfl ?_
  refine tm_ropens X (eo) ⟨by omega, by omega⟩ (Nat.le_of_ble_eq_true rfl) dX6_piece_12 ⟨by omega, by omega⟩ ?_
  refine tm_aload_n X 1 dX6_piece_15 rfl rfl ?_
  refine tm_risGood X (Y_good S2) ⟨by omega, by omega⟩ (Nat.le_of_ble_eq_true rfl) dX6_piece_16 ⟨by omega, by omega⟩ ?_
  refine tm_if_eqF X 29 (by decide) dX6_piece_19 rfl ?_
  refine tm_aload_n X 1 dX6_piece_22 rfl rfl ?_
  refine tm_rpiece X hS ⟨by omega, by omega⟩ (Nat.le_of_ble_eq_true rfl) dX6_piece_23 ⟨by omega, by omega⟩ ?_
  rintro h3 P x ⟨q1, q2, q3⟩
  have E3 : Ex [90] h h3 := Ex_tt (Ex_yA (Ex_yO (Ex_r _ h))) q1
  rw [List.append_nil]
  refine tm_goto X 30 dX6_piece_26 rfl ?_
  refine tm_astore_nq X [(2, va_rf x), (1, .int (nI (hc (tX h) n a))), (0, .ref (ac 90))] dX6_piece_30 rfl (Nat.le_of_ble_eq_true rfl) rfl ?_
  refine tm_aload_n X 2 dX6_piece_31 rfl rfl ?_
  refine tm_dup X dX6_piece_32 rfl ?_
  refine tm_ropen X dX6_piece_33 ?_
  refine tm_iconst X (1 : Int32) dX6_piece_36 (by decide) ?_
  refine tm_isub X dX6_piece_37 ?_
  refine tm_rputopen X dX6_piece_38 ?_
  refine tm_newNot X ⟨by omega, by omega⟩ dX6_piece_41 (fun q => ?_)
  refine tm_dup X dX6_piece_44 rfl ?_
  refine tm_aload_nq X 0 dX6_piece_45 rfl rfl ?_
  refine tm_initNot X ⟨by omega, by omega⟩ (Nat.le_of_ble_eq_true rfl) dX6_piece_46 ⟨by omega, by omega⟩ ?_
  exact tm_rret1 X hR (hQ h3 P x q E3 q2 q3) dX6_piece_49 ⟨by omega, by omega⟩
/-- ( -/
theorem pie_c (S : RS h n a o 0 0) (hc9 : hc (tX h) n a = 40) (l : Launch) (D : va_G) (dA : Nat → ClassId) (ad ac : Nat → Nat) (tt : (Nat → Option Nat) × (Nat → Option Nat) × va_W) (sc : (Nat → Option Nat) × (Nat → Option Nat)) (fr lo mc ms fr1 lo1 : Nat) (hb : 30 ≤ fr ∧ 1000 ≤ lo ∧ fr1 + 1 ≤ fr ∧ 30 + lo1 ≤ lo) {Q1 Q : Hp → va_W → Option Nat → Prop} (hS : CX_condition l D dA fr1 lo1 mc ms ad ac tt sc h Q1) (hQ : ∀ h3 P x, Q1 h3 P x → Q h3 P x) : CX_piece l D dA fr lo mc ms ad ac tt sc h Q := by
  have hn := S.2.2.2.2.2.1
  refine ct_openE (by decide) (Nat.le_of_ble_eq_true rfl) ?_
  intro G X _ _ _ hR
  have hR := hR ⟨_, rfl⟩
  refine (show TM G () (some ()) (wXR ad ac dA tt sc h) 0 0 0 [(0, .ref (ac 90))] [] from ?_) rfl
  refine tm_w0 X ?_
  refine tm_aload_n X 0 dX6_piece_0 rfl rfl ?_
  refine tm_rhere X (Y_here S) ⟨by omega, by omega⟩ (Nat.le_of_ble_eq_true rfl) dX6_piece_1 ⟨by omega, by omega⟩ ?_
  refine tm_istore_n X [(1, .int (nI (hc (tX h) n a))), (0, .ref (ac 90))] dX6_piece_4 rfl (Nat.le_of_ble_eq_true rfl) rfl ?_
  refine tm_iload_n X 0 dX6_piece_5 rfl rfl ?_
  refine tm_bipush X (33 : Int32) dX6_piece_6 (by decide) ?_
  refine tm_ic_neT X 50 (by rw [hc9]; decide) dX6_piece_8 rfl ?_
  refine tm_iload_n X 0 dX6_piece_50 rfl rfl ?_
  refine tm_bipush X (40 : Int32) dX6_piece_51 (by decide) ?_
  refine tm_ic_neF X 61 (by rw [hc9]; rfl) dX6_piece_53 rfl ?_
  refine tm_aload_n X 1 dX6_piece_56 rfl rfl ?_
  refine tm_rcondition X hS ⟨by omega, by omega⟩ (Nat.le_of_ble_eq_true rfl) dX6_piece_57 ⟨by omega, by omega⟩ ?_
  intro h3 P x hq
  rw [List.append_nil]
  exact tm_rret X hR (hQ h3 P x hq) dX6_piece_60 ⟨by omega, by omega⟩
/-- two sums -/
theorem pie_s (S : RS h n a o 0 0) (h33 : hc (tX h) n a ≠ 33) (h40 : hc (tX h) n a ≠ 40) (l : Launch) (D : va_G) (dA : Nat → ClassId) (ad ac : Nat → Nat) (tt : (Nat → Option Nat) × (Nat → Option Nat) × va_W) (sc : (Nat → Option Nat) × (Nat → Option Nat)) (fr lo mc ms fr1 lo1 mc1 ms1 mc2 ms2 : Nat) (hb : 30 ≤ fr ∧ 1000 ≤ lo ∧ fr1 + 1 ≤ fr ∧ 30 + lo1 ≤ lo ∧ mc1 + mc2 + 1 ≤ mc ∧ ms1 + ms2 + 3 ≤ ms) {a1 f1 p1 d a2 f2 p2 d2 : Nat} {F1 F2 : VF} (ha1 : a1 ≤ n + 1) (hS : CX_sum l D dA fr1 lo1 mc1 ms1 ad ac tt sc h (QR h n o a1 f1 p1 d F1)) (hS2 : f1 = 0 → p1 = 0 → cmS (hc (tX h) n a1) ≠ 0 → ∀ h1, Ex [90] h h1 → RS h1 n (a1 + 1) o 0 0 → CX_sum l D dA fr1 lo1 mc2 ms2 ad ac tt sc h1 (QR h1 n o a2 f2 p2 d2 F2)) (hp1 : f1 = 0 → p1 = 0) {Q : Hp → va_W → Option Nat → Prop}
    (hQ1 : ∀ h3 P y, Ex [90] h h3 → RS h3 n a1 o f1 p1 → 0 < f1 → Q (yA h3) P (some y))
    (hQ2 : ∀ h3 P y, Ex [90] h h3 → RS h3 n a1 o 0 0 → f1 = 0 → cmS (hc (tX h) n a1) = 0 → Q (yA (yF h3 1 a1)) P (some y))
    (hQ3 : ∀ h3 P P2 x x2 y, Ex [90] h h3 → RS h3 n a2 o f2 p2 → f1 = 0 → cmS (hc (tX h) n a1) ≠ 0 → SDn d P x F1 → (f2 = 0 → SDn d2 P2 x2 F2) → Q h3 (P2 ++ P ++ [(y, .inr (11, [.ref x, .ref x2, .int (nI (hc (tX h) n a1))]))]) (some y)) : CX_piece l D dA fr lo mc ms ad ac tt sc h Q := by
  have hn := S.2.2.2.2.2.1
  have h256 := hc_lt (t := tX h) (fun i => oct_lt _) n a
  have k256 := hc_lt (t := tX h) (fun i => oct_lt _) n a1
  refine ct_openE (by decide) (Nat.le_of_ble_eq_true rfl) ?_
  intro G X _ _ _ hR
  have hR := hR ⟨_, rfl⟩
  refine (show TM G () (some ()) (wXR ad ac dA tt sc h) 0 0 0 [(0, .ref (ac 90))] [] from ?_) rfl
  refine tm_w0 X ?_
  refine tm_aload_n X 0 dX6_piece_0 rfl rfl ?_
  refine tm_rhere X (Y_here S) ⟨by omega, by omega⟩ (Nat.le_of_ble_eq_true rfl) dX6_piece_1 ⟨by omega, by omega⟩ ?_
  refine tm_istore_n X [(1, .int (nI (hc (tX h) n a))), (0, .ref (ac 90))] dX6_piece_4 rfl (Nat.le_of_ble_eq_true rfl) rfl ?_
  refine tm_iload_n X 0 dX6_piece_5 rfl rfl ?_
  refine tm_bipush X (33 : Int32) dX6_piece_6 (by decide) ?_
  refine tm_ic_neT X 50 (fun e => h33 ((l_eq (N := 33) (c := 33) rfl (by decide) (by omega)).mp e)) dX6_piece_8 rfl ?_
  refine tm_iload_n X 0 dX6_piece_50 rfl rfl ?_
  refine tm_bipush X (40 : Int32) dX6_piece_51 (by decide) ?_
  refine tm_ic_neT X 61 (fun e => h40 ((l_eq (N := 40) (c := 40) rfl (by decide) (by omega)).mp e)) dX6_piece_53 rfl ?_
  refine tm_aload_n X 1 dX6_piece_61 rfl rfl ?_
  refine tm_rsum X hS ⟨by omega, by omega⟩ (Nat.le_of_ble_eq_true rfl) dX6_piece_62 ⟨by omega, by omega⟩ ?_
  rintro h1 P _ ⟨q1, q2, q3, x, fs, rfl, _⟩
  rw [List.append_nil]
  have hh := Y_here q2
  rw [tX_9 q1 rfl] at hh
  refine tm_astore_n X [(2, .ref x), (1, .int (nI (hc (tX h) n a))), (0, .ref (ac 90))] dX6_piece_65 rfl (Nat.le_of_ble_eq_true rfl) rfl ?_
  refine tm_aload_n X 2 dX6_piece_66 rfl rfl ?_
  refine tm_rhere X (hh) ⟨by omega, by omega⟩ (Nat.le_of_ble_eq_true rfl) dX6_piece_67 ⟨by omega, by omega⟩ ?_
  refine tm_istore_n X [(3, .int (nI (hc (tX h) n a1))), (2, .ref x), (1, .int (nI (hc (tX h) n a))), (0, .ref (ac 90))] dX6_piece_70 rfl (Nat.le_of_ble_eq_true rfl) rfl ?_
  refine tm_iload_n X 0 dX6_piece_71 rfl rfl ?_
  refine tm_bipush X (60 : Int32) dX6_piece_72 (by decide) ?_
  -- behind the sign
  have beh : ∀ h2, (0 < f1 → h2 = h1) → (f1 = 0 → h2 = if cmS (hc (tX h) n a1) = 0 then yF h1 1 a1 else h1) → TM G () (some ()) (wXP ad ac dA tt sc P h2) (0 + mc1) (0 + ms1) 98 [(3, .int (nI (hc (tX h) n a1))), (2, .ref x), (1, .int (nI (hc (tX h) n a))), (0, .ref (ac 90))] [] := by
    intro h2 e1 e2
    refine tm_aload_n X 3 dX6_piece_98 rfl rfl ?_
    refine tm_dup X dX6_piece_99 rfl ?_
    refine tm_rat X dX6_piece_100 ?_
    refine tm_iconst X (1 : Int32) dX6_piece_103 (by decide) ?_
    refine tm_iadd X dX6_piece_104 ?_
    refine tm_rputat X dX6_piece_105 ?_
    refine tm_newCmp X ⟨by omega, by omega⟩ dX6_piece_108 (fun q => ?_)
    refine tm_dup X dX6_piece_111 rfl ?_
    refine tm_aload_n X 1 dX6_piece_112 rfl rfl ?_
    refine tm_iload_n X 0 dX6_piece_113 rfl rfl ?_
    refine tm_aload_n X 3 dX6_piece_114 rfl rfl ?_
    have nul : ∀ h3, TM G () (some ()) (wXP ad ac dA tt sc (P ++ [(q, .inr (11, [.null, .null, .int 0]))]) h3) (0 + mc1 + 1) (0 + ms1 + 3) 128 [(3, .int (nI (hc (tX h) n a1))), (2, .ref x), (1, .int (nI (hc (tX h) n a))), (0, .ref (ac 90))] [.int (nI (hc (tX h) n a1)), .ref x, .ref q, .ref q] → TM G () (some ()) (wXP ad ac dA tt sc (P ++ [(q, .inr (11, [.null, .null, .int 0]))]) h3) (0 + mc1 + 1) (0 + ms1 + 3) 128 [(3, .int (nI (hc (tX h) n a1))), (2, .ref x), (1, .int (nI (hc (tX h) n a))), (0, .ref (ac 90))] [.int (nI (hc (tX h) n a1)), .ref x, .ref q, .ref q] := fun _ k => k
    clear nul
    have ill : ∀ h3, (∀ P' y, Q h3 P' (some y)) → TM G () (some ()) (wXP ad ac dA tt sc (P ++ [(q, .inr (11, [.null, .null, .int 0]))]) h3) (0 + mc1 + 1) (0 + ms1 + 3) 128 [(3, .int (nI (hc (tX h) n a1))), (2, .ref x), (1, .int (nI (hc (tX h) n a))), (0, .ref (ac 90))] [.int (nI (hc (tX h) n a1)), .ref x, .ref q, .ref q] := by
      intro h3 hq
      refine tm_anull X dX6_piece_128 ?_
      refine tm_initCmp (b0 := some x) (b2 := none) X ⟨by omega, by omega⟩ (Nat.le_of_ble_eq_true rfl) dX6_piece_129 ⟨by omega, by omega⟩ ?_
      exact tm_rret1 X hR (hq _ q) dX6_piece_132 ⟨by omega, by omega⟩
    by_cases cf : f1 = 0
    · subst cf
      have := hp1 rfl
      subst this
      rw [e2 rfl]
      by_cases cm : cmS (hc (tX h) n a1) = 0
      · rw [if_pos cm]
        have q4 := RS_A (RS_F q2 (w := 1) (q := a1) (by decide)) (by omega)
        refine tm_risGood X (Y_ill q4 (by decide)) ⟨by omega, by omega⟩ (Nat.le_of_ble_eq_true rfl) dX6_piece_115 ⟨by omega, by omega⟩ ?_
        refine tm_if_eqT X 128 (rfl) dX6_piece_118 rfl ?_
        exact ill _ (fun P' y => hQ2 h1 P' y q1 q2 rfl cm)
      · rw [if_neg cm]
        have q4 := RS_A q2 (by omega)
        refine tm_risGood X (Y_good q4) ⟨by omega, by omega⟩ (Nat.le_of_ble_eq_true rfl) dX6_piece_115 ⟨by omega, by omega⟩ ?_
        refine tm_if_eqF X 128 (by decide) dX6_piece_118 rfl ?_
        refine tm_aload_n X 3 dX6_piece_121 rfl rfl ?_
        refine tm_rsum X (hS2 rfl rfl cm (yA h1) (Ex_yA q1) q4) ⟨by omega, by omega⟩ (Nat.le_of_ble_eq_true rfl) dX6_piece_122 ⟨by omega, by omega⟩ ?_
        rintro h3 P2 _ ⟨r1, r2, r3, x2, fs2, rfl, _⟩
        rw [← List.append_assoc]
        refine tm_goto X 129 dX6_piece_125 rfl ?_
        refine tm_initCmp (b0 := some x) (b2 := some x2) X ⟨by omega, by omega⟩ (Nat.le_of_ble_eq_true rfl) dX6_piece_129 ⟨by omega, by omega⟩ ?_
        refine tm_rret1 X hR (hQ3 h3 P P2 x x2 q (Ex_tt (Ex_yA q1) r1) r2 rfl cm ?_ ?_) dX6_piece_132 ⟨by omega, by omega⟩
        · obtain ⟨y, y1, y2⟩ := q3 rfl
          cases y1
          exact y2
        · intro e9
          obtain ⟨y, y1, y2⟩ := r3 e9
          cases y1
          exact y2
    · rw [e1 (by omega)]
      have q4 := RS_A q2 (by omega)
      refine tm_risGood X (Y_ill q4 (by omega)) ⟨by omega, by omega⟩ (Nat.le_of_ble_eq_true rfl) dX6_piece_115 ⟨by omega, by omega⟩ ?_
      refine tm_if_eqT X 128 (rfl) dX6_piece_118 rfl ?_
      exact ill _ (fun P' y => hQ1 h1 P' y q1 q2 (by omega))
  by_cases c1 : hc (tX h) n a1 = 60
  · refine tm_ic_eqT X 98 (by rw [c1]; rfl) dX6_piece_74 rfl ?_
    exact beh h1 (fun _ => rfl) (fun _ => by rw [c1]; rfl)
  · refine tm_ic_eqF X 98 (fun e => c1 ((l_eq (N := 60) (c := 60) rfl (by decide) (by omega)).mp e)) dX6_piece_74 rfl ?_
    refine tm_iload_n X 0 dX6_piece_77 rfl rfl ?_
    refine tm_bipush X (62 : Int32) dX6_piece_78 (by decide) ?_
    by_cases c2 : hc (tX h) n a1 = 62
    · refine tm_ic_eqT X 98 (by rw [c2]; rfl) dX6_piece_80 rfl ?_
      exact beh h1 (fun _ => rfl) (fun _ => by rw [c2]; rfl)
    · refine tm_ic_eqF X 98 (fun e => c2 ((l_eq (N := 62) (c := 62) rfl (by decide) (by omega)).mp e)) dX6_piece_80 rfl ?_
      refine tm_iload_n X 0 dX6_piece_83 rfl rfl ?_
      refine tm_bipush X (61 : Int32) dX6_piece_84 (by decide) ?_
      by_cases c3 : hc (tX h) n a1 = 61
      · refine tm_ic_eqT X 98 (by rw [c3]; rfl) dX6_piece_86 rfl ?_
        exact beh h1 (fun _ => rfl) (fun _ => by rw [c3]; rfl)
      · have cm : cmS (hc (tX h) n a1) = 0 := by
          unfold cmS
          rw [if_neg c1, if_neg c2, if_neg c3]
        refine tm_ic_eqF X 98 (fun e => c3 ((l_eq (N := 61) (c := 61) rfl (by decide) (by omega)).mp e)) dX6_piece_86 rfl ?_
        refine tm_aload_n X 3 dX6_piece_89 rfl rfl ?_
        refine tm_iconst X (1 : Int32) dX6_piece_90 (by decide) ?_
        refine tm_aload_n X 3 dX6_piece_91 rfl rfl ?_
        refine tm_rat X dX6_piece_92 ?_
        rw [q2.2.1]
        by_cases cf : f1 = 0
        · subst cf
          have := hp1 rfl
          subst this
          refine tm_rbad X (Y_bad0 q2 1 a1) ⟨by omega, by omega⟩ (Nat.le_of_ble_eq_true rfl) dX6_piece_95 ⟨by omega, by omega⟩ ?_
          exact beh _ (fun e => by omega) (fun _ => by rw [if_pos cm])
        · refine tm_rbad X (Y_bad1 q2 (by omega) 1 (nI a1)) ⟨by omega, by omega⟩ (Nat.le_of_ble_eq_true rfl) dX6_piece_95 ⟨by omega, by omega⟩ ?_
          exact beh _ (fun _ => rfl) (fun e => absurd e cf)
end
