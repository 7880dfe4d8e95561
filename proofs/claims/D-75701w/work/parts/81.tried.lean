/-! tried, even -/
set_option maxRecDepth 100000
theorem tr_0 {tt : TTy} {hx hm : Hp} (H : II LWd tt hx hm) : ∃ h8, mX3_takes 50 40 hx = some h8 ∧ Ex [50, 52, 53, 54] hx h8 ∧ mX5_shelves hm 0 = some (shE hm 0) ∧ NC 50 tt h8 (shE hm 0) ∧ NS 50 h8 (shE hm 0) h8 (shE hm 0) := by
  obtain ⟨h8, e1, e2, e3⟩ := X_takes (b := 50) (b2 := 40) (by omega) hx
  have e2' : Ex [50, 52, 53, 54] hx h8 := e2
  obtain ⟨J1, J2, J3, J4, J5, J6⟩ := H
  refine ⟨h8, e1, e2', M_shelves (o := 0) (by omega), ⟨Or.inr rfl, ?_, ?_, ?_⟩, ?_, Ex_r _ _, Ex_r _ _, fun _ _ _ _ _ => rfl⟩
  · unfold IOff
    rw [e2' 1 (by decide), shE_n (by decide)]
    exact J2
  · unfold IPath
    rw [e2' 100 (by decide), e2' 3 (by decide), shE_n (by decide), shE_n (by decide)]
    exact J4
  · rw [e2' 70 (by decide), e2' 71 (by decide), shE_n (by decide), shE_n (by decide), shE_n (by decide), shE_n (by decide), shE_n (by decide), shE_n (by decide)]
    exact J6
  · unfold BM
    rw [shE_n (by decide), shE_n (by decide), shE_n (by decide)]
    exact BR_takes e3 J1
theorem tb_n {h : Hp} {k : Nat} (h1 : k ≠ 200) (h2 : k ≠ 201) (h3 : k ≠ 300) : tbE h 0 k = h k := by
  unfold tbE
  rw [u2_n h3, u2_n h3, u2_n h2, u2_n h2, sN_n h1]
theorem tb_i {h : Hp} {i : Nat} (h1 : i ≠ 3) (h2 : i ≠ 4) : tbE h 0 300 i = h 300 i := by
  unfold tbE
  rw [u2_e, upd_n h2, u2_e, upd_n h1, u2_n (by decide), u2_n (by decide), sN_n (by decide)]
theorem tr_b {tt : TTy} {hx hm h8 hx' hm' : Hp} (H : II LWd tt hx hm) (E8 : Ex [50, 52, 53, 54] hx h8) (S : NS 50 h8 (shE hm 0) hx' hm') : II LWd tt hx' (tbE hm' 0) := by
  obtain ⟨J1, J2, J3, J4, J5, J6⟩ := H
  obtain ⟨_, S5, T5, F⟩ := S
  have X : ∀ z, z ∈ pX → hx' z = hx z := fun z hz => by
    have a1 : ∀ z, z ∈ pX → z ∉ [2, 30, 31, 50, 50 + 2, 50 + 3, 50 + 4] := by decide
    have a2 : ∀ z, z ∈ pX → z ∉ [50, 52, 53, 54] := by decide
    rw [S5 z (a1 z hz), E8 z (a2 z hz)]
  have M : ∀ z, z ∈ [202, 205, 222, 223, 224, 225, 226, 234] → tbE hm' 0 z = hm z := fun z hz => by
    have a1 : ∀ z, z ∈ [202, 205, 222, 223, 224, 225, 226, 234] → z ≠ 200 ∧ z ≠ 201 ∧ z ≠ 300 ∧ z ≠ 255 ∧ z ∉ [200, 201, 227, 228, 242, 300] := by decide
    have b := a1 z hz
    rw [tb_n b.1 b.2.1 b.2.2.1, T5 z b.2.2.2.2, shE_n b.2.2.2.1]
  have MF : ∀ i, i ≠ 3 → i ≠ 4 → i ≠ 52 → i ≠ 53 → tbE hm' 0 300 i = hm 300 i := fun i a1 a2 a3 a4 => by
    rw [tb_i a1 a2, F i a1 a2 a3 a4, shE_n (by decide)]
  have M255 : hm' 255 = shE hm 0 255 := T5 255 (by decide)
  refine ⟨?_, ?_, ?_, ?_, ?_, ?_⟩
  · refine BM_back ?_
    rw [M255]
    obtain ⟨⟨U, L, H1, H2⟩, w0, w1, lt, nt⟩ := J1
    have s9 := shE_96 hm 0
    refine ⟨⟨U, L, HX_c (X 43 (by decide)) (X 42 (by decide)) H1, fun p hp => ?_⟩, ?_, ?_, ?_, ?_⟩
    · show shE hm 0 255 (0 + p) = _ ∧ shE hm 0 255 (0 + (48 + p)) = _
      rw [shE_k (by omega), shE_k (by omega)]
      exact H2 p hp
    · rw [s9.1, X 44 (by decide)]
      exact w0
    · rw [s9.2.1, X 44 (by decide)]
      exact w1
    · rw [s9.2.2.1, X 40 (by decide)]
      exact lt
    · rw [s9.2.2.2, X 40 (by decide)]
      exact nt
  · unfold IOff
    rw [X 1 (by decide), M 202 (by decide)]
    exact J2
  · unfold ITape
    rw [X 100 (by decide), X 8 (by decide), M 205 (by decide), MF 6 (by decide) (by decide) (by decide) (by decide)]
    exact J3
  · unfold IPath
    rw [X 100 (by decide), X 3 (by decide), M 234 (by decide), MF 39 (by decide) (by decide) (by decide) (by decide)]
    exact J4
  · unfold IKept
    rw [X 100 (by decide), MF 56 (by decide) (by decide) (by decide) (by decide), tb_n (k := 255) (by decide) (by decide) (by decide), M255]
    rcases J5 with J5 | ⟨a, b, J5⟩
    · exact Or.inl J5
    · refine Or.inr ⟨a, b, ?_⟩
      obtain ⟨⟨U, L, H1, H2⟩, w0, w1, lt, nt⟩ := J5
      refine ⟨⟨U, L, HX_c (X 63 (by decide)) (X 62 (by decide)) H1, fun p hp => ?_⟩, ?_, ?_, ?_, ?_⟩
      · show shE hm 0 255 (100 + p) = _ ∧ shE hm 0 255 (100 + (48 + p)) = _
        rw [shE_o (by omega), shE_o (by omega)]
        exact H2 p hp
      · rw [shE_o (by omega), X 64 (by decide)]
        exact w0
      · rw [shE_o (by omega), X 64 (by decide)]
        exact w1
      · rw [shE_o (by omega), X 60 (by decide)]
        exact lt
      · rw [shE_o (by omega), X 60 (by decide)]
        exact nt
  · rw [X 70 (by decide), X 71 (by decide), M 222 (by decide), M 223 (by decide), M 224 (by decide), M 225 (by decide), M 226 (by decide), MF 15 (by decide) (by decide) (by decide) (by decide)]
    exact J6
/-- the marks at rest leave what a night sees -/
theorem NS_mk {hx0 hm0 hx hm : Hp} (S : NS 50 hx0 hm0 hx hm) (f f' : Nat → Int32) : NS 50 hx0 hm0 (sN hx 2 f 48) (sN hm 242 f' 48) := by
  refine ⟨BM_c S.1 (sN_n (by decide)) (sN_n (by decide)) (sN_n (by decide)) (sN_n (by decide)) (sN_n (by decide)) (sN_n (by decide)) (by rw [sN_n (by decide)]) (by rw [sN_n (by decide)]), fun z hz => ?_, fun z hz => ?_, fun i a1 a2 a3 a4 => ?_⟩
  · rw [sN_n (fun e => hz (by rw [e]; simp))]
    exact S.2.1 z hz
  · rw [sN_n (fun e => hz (by rw [e]; simp))]
    exact S.2.2.1 z hz
  · rw [sN_n (by decide)]
    exact S.2.2.2 i a1 a2 a3 a4
theorem M_mks0 {h : Hp} {U L : Nat → Nat} (H : HM h U L) : mX5_marks h 0 0 0 = some (nI (mks U L 31), sN h 242 (fun p => bI (mk U L 31 0 p)) 48) := M_mks H (g := 31) (by decide)
theorem X_mks0 {h : Hp} {U L : Nat → Nat} (H : HX 50 h U L) : mX3_marks 50 h 31 0 = some (nI (mks U L 31), sN h 2 (fun p => bI (mk U L 31 0 p)) 48) := X_mks H (by decide) (g := 31) (by decide)
theorem M_back0 (h : Hp) : mX5_takesBack h 0 = some (tbE h 0) := M_takesBack (o := 0) (by omega)
theorem fx_FU2 {τ : Type} (b : τ) (F : τ → τ) : ∃ m, fx FU b F = F (F (fx m b F)) := ⟨99998, rfl⟩
theorem M_wears1 {h h6 : Hp} {pp : Int32} {n : Nat} {s : Int32} (en : h 300 4 = nI n) (hn : n < 9999) (e : mX5_wearsNight h pp = some (s, h6)) : mX5_wears h 1 pp = some (0 + s, h6) := by
  unfold mX5_wears
  obtain ⟨m, hm⟩ := fx_FU2 (fun _ _ _ => none) (fun (k5 : Int32 → Int32 → Hp → Option (Int32 × Hp)) (x3_1 : Int32) (x4_2 : Int32) (h3 : Hp) => nm (some (x3_1, h3)) (fun k35 => if (1 : Int32) ≤ x4_2 then k35 else if (9999 : Int32) ≤ h3 300 4 then k35 else cl2 (mX5_wearsNight h3 pp) (fun r5 h6 => nm (x3_1 + r5) (fun v7 => k5 v7 (x4_2 + 1) h6))))
  rw [hm]
  show nm (some ((0 : Int32), h)) _ = _
  rw [nm_s, if_neg (by decide), en, if_neg (l_ge (N := 9999) (c := 9999) rfl hn (by decide)), e, cl2_s, nm_s]
  show nm (some (0 + s, h6)) _ = _
  rw [nm_s, if_pos (by decide)]
theorem M_wears0 {h : Hp} {pp : Int32} (en : h 300 4 = nI 9999) : mX5_wears h 1 pp = some (0, h) := by
  unfold mX5_wears
  obtain ⟨m, hm⟩ := fx_FU (fun _ _ _ => none) (fun (k5 : Int32 → Int32 → Hp → Option (Int32 × Hp)) (x3_1 : Int32) (x4_2 : Int32) (h3 : Hp) => nm (some (x3_1, h3)) (fun k35 => if (1 : Int32) ≤ x4_2 then k35 else if (9999 : Int32) ≤ h3 300 4 then k35 else cl2 (mX5_wearsNight h3 pp) (fun r5 h6 => nm (x3_1 + r5) (fun v7 => k5 v7 (x4_2 + 1) h6))))
  rw [hm]
  show nm (some ((0 : Int32), h)) _ = _
  rw [nm_s, if_neg (by decide), en, if_pos (by decide)]
def eXB (tt : TTy) (n0 pp mn : Nat) : (Int32 → Hp → Option (Int32 × Hp)) → Int32 → Hp → Option (Int32 × Hp) := fun k47 (x4_9 : Int32) (h10 : Hp) => if (nI n0) < x4_9 then ( some ((-2 : Int32), h10)) else ( cl2 (mX3_marks 50 h10 (31 : Int32) (0 : Int32)) (fun r12 h13 => if r12 < (nI mn) then ( nm ( some ((-2 : Int32), h13)) (fun k89 => if x4_9 = (nI n0) then ( k89) else ( if (h13 50 2) = (9999 : Int32) then ( k89) else ( cl1 (mX3_nightGoes 50 tt h13 (nI pp)) (fun h15 => k47 (x4_9 + (1 : Int32)) h15))))) else ( some (x4_9, h13))))
def eMB (n0 pp mn : Nat) : (Int32 → Int32 → Hp → Option (Int32 × Hp)) → Int32 → Int32 → Hp → Option (Int32 × Hp) := fun k31 (x4_7 : Int32) (x5_8 : Int32) (h9 : Hp) => cl2 (mX5_marks h9 (0 : Int32) (0 : Int32) (0 : Int32)) (fun r11 h12 => nm ( cl2 (mX5_marks h12 (0 : Int32) (0 : Int32) (0 : Int32)) (fun r14 h15 => nm (fun (s16 : Int32) => cl1 (mX5_takesBack h15 (0 : Int32)) (fun h18 => nm (fun (s19 : Int32) => some (s19, h18)) (fun k120 => if s16 = 0 then ( k120 (-2 : Int32)) else ( k120 x4_7)))) (fun k101 => if r14 < (nI mn) then ( k101 (0 : Int32)) else ( k101 (1 : Int32))))) (fun k85 => if (nI mn) ≤ r11 then ( k85) else ( if (nI n0) ≤ x4_7 then ( k85) else ( if x5_8 = (h12 300 4) then ( k85) else ( nm ((h12 300 4)) (fun v20 => cl2 (mX5_wears h12 (1 : Int32) (nI pp)) (fun r22 h23 => nm (((x4_7 + (h23 300 4)) - v20)) (fun v24 => k31 v24 v20 h23))))))))
theorem eXB_s {tt : TTy} {n0 pp mn k : Nat} {hx : Hp} {U L : Nat → Nat} (HU : HX 50 hx U L) (K : Int32 → Hp → Option (Int32 × Hp)) : eXB tt n0 pp mn K (nI k) hx = if nI n0 < nI k then some (-2, hx) else if nI (mks U L 31) < nI mn then (if nI k = nI n0 then some (-2, sN hx 2 (fun p => bI (mk U L 31 0 p)) 48) else if sN hx 2 (fun p => bI (mk U L 31 0 p)) 48 50 2 = 9999 then some (-2, sN hx 2 (fun p => bI (mk U L 31 0 p)) 48) else cl1 (mX3_nightGoes 50 tt (sN hx 2 (fun p => bI (mk U L 31 0 p)) 48) (nI pp)) (fun h15 => K (nI k + 1) h15)) else some (nI k, sN hx 2 (fun p => bI (mk U L 31 0 p)) 48) := by
  unfold eXB
  rw [X_mks0 HU, cl2_s, nm_s]
theorem eMB_s {n0 pp mn k : Nat} {ah : Int32} {hm : Hp} {U L : Nat → Nat} (HL : HM hm U L) (K : Int32 → Int32 → Hp → Option (Int32 × Hp)) : eMB n0 pp mn K (nI k) ah hm = if nI mn ≤ nI (mks U L 31) then (if nI (mks U L 31) < nI mn then some (-2, tbE (sN (sN hm 242 (fun p => bI (mk U L 31 0 p)) 48) 242 (fun p => bI (mk U L 31 0 p)) 48) 0) else some (nI k, tbE (sN (sN hm 242 (fun p => bI (mk U L 31 0 p)) 48) 242 (fun p => bI (mk U L 31 0 p)) 48) 0)) else if nI n0 ≤ nI k then (if nI (mks U L 31) < nI mn then some (-2, tbE (sN (sN hm 242 (fun p => bI (mk U L 31 0 p)) 48) 242 (fun p => bI (mk U L 31 0 p)) 48) 0) else some (nI k, tbE (sN (sN hm 242 (fun p => bI (mk U L 31 0 p)) 48) 242 (fun p => bI (mk U L 31 0 p)) 48) 0)) else if ah = sN hm 242 (fun p => bI (mk U L 31 0 p)) 48 300 4 then (if nI (mks U L 31) < nI mn then some (-2, tbE (sN (sN hm 242 (fun p => bI (mk U L 31 0 p)) 48) 242 (fun p => bI (mk U L 31 0 p)) 48) 0) else some (nI k, tbE (sN (sN hm 242 (fun p => bI (mk U L 31 0 p)) 48) 242 (fun p => bI (mk U L 31 0 p)) 48) 0)) else cl2 (mX5_wears (sN hm 242 (fun p => bI (mk U L 31 0 p)) 48) 1 (nI pp)) (fun r22 h23 => K (nI k + h23 300 4 - sN hm 242 (fun p => bI (mk U L 31 0 p)) 48 300 4) (sN hm 242 (fun p => bI (mk U L 31 0 p)) 48 300 4) h23) := by
  have HL2 : HM (sN hm 242 (fun p => bI (mk U L 31 0 p)) 48) U L := HM_c (sN_n (by decide)) HL
  unfold eMB
  rw [M_mks0 HL, cl2_s, nm_s, M_mks0 HL2, cl2_s, nm_s]
  simp only [M_back0, cl1_q, nm_q, i10_q, i00_q, if_true]
theorem even_loop {tt : TTy} {hx0 hm0 : Hp} (C : NC 50 tt hx0 hm0) {n0 pp mn : Nat} (hn0 : n0 ≤ 30) (hpp : pp ≤ 50) (hmn : mn ≤ 48) : ∀ d k ah hx hm m, k + d = n0 → NS 50 hx0 hm0 hx hm → ah ≠ hm 300 4 → d + 1 < m → ∃ r hx' hm', fx m (fun _ _ => none) (eXB tt n0 pp mn) (nI k) hx = some (r, hx') ∧ fx m (fun _ _ _ => none) (eMB n0 pp mn) (nI k) ah hm = some (r, tbE hm' 0) ∧ NS 50 hx0 hm0 hx' hm' := by
  intro d
  induction d with
  | zero =>
    intro k ah hx hm m hk S ha hm1
    obtain ⟨m', rfl⟩ : ∃ m', m = m' + 1 := ⟨m - 1, by omega⟩
    obtain ⟨U, L, HU, HL⟩ := BM_HX S.1
    have c48 := mks_le U L 31
    have S1 := NS_mk S (fun p => bI (mk U L 31 0 p)) (fun p => bI (mk U L 31 0 p))
    have S2 : NS 50 hx0 hm0 (sN hx 2 (fun p => bI (mk U L 31 0 p)) 48) (sN (sN hm 242 (fun p => bI (mk U L 31 0 p)) 48) 242 (fun p => bI (mk U L 31 0 p)) 48) := by
      have := NS_mk (NS_mk S (fun p => bI (mk U L 31 0 p)) (fun p => bI (mk U L 31 0 p))) (fun p => bI (mk U L 31 0 p)) (fun p => bI (mk U L 31 0 p))
      refine ⟨BM_c this.1 ?_ ?_ ?_ ?_ rfl rfl rfl rfl, S1.2.1, this.2.2.1, this.2.2.2⟩
      · rw [sN_n (k := 2) (by decide), sN_n (k := 2) (by decide), sN_n (k := 2) (by decide)]
      · rw [sN_n (k := 2) (by decide), sN_n (k := 2) (by decide), sN_n (k := 2) (by decide)]
      · rw [sN_n (k := 2) (by decide), sN_n (k := 2) (by decide), sN_n (k := 2) (by decide)]
      · rw [sN_n (k := 2) (by decide), sN_n (k := 2) (by decide), sN_n (k := 2) (by decide)]
    rw [fx_s, fx_s, eXB_s HU, eMB_s HL, if_neg (nI_nlt (by omega) (by omega))]
    by_cases c : mn ≤ mks U L 31
    · rw [if_neg (nI_nlt c (by omega)), if_pos (nI_le c (by omega)), if_neg (nI_nlt c (by omega))]
      exact ⟨_, _, _, rfl, rfl, S2⟩
    · rw [if_pos (nI_lt (by omega) (by omega)), if_pos (by rw [show k = n0 by omega]), if_neg (nI_leN (by omega) (by omega) c), if_pos (nI_le (by omega) (by omega)), if_pos (nI_lt (by omega) (by omega))]
      exact ⟨_, _, _, rfl, rfl, S2⟩
  | succ d ih =>
    intro k ah hx hm m hk S ha hm1
    obtain ⟨m', rfl⟩ : ∃ m', m = m' + 1 + 1 := ⟨m - 2, by omega⟩
    obtain ⟨U, L, HU, HL⟩ := BM_HX S.1
    have c48 := mks_le U L 31
    have S1 := NS_mk S (fun p => bI (mk U L 31 0 p)) (fun p => bI (mk U L 31 0 p))
    have rep : ∀ hmz, NS 50 hx0 hm0 (sN hx 2 (fun p => bI (mk U L 31 0 p)) 48) hmz → NS 50 hx0 hm0 (sN hx 2 (fun p => bI (mk U L 31 0 p)) 48) (sN hmz 242 (fun p => bI (mk U L 31 0 p)) 48) := fun hmz Sz => by
      have := NS_mk Sz (fun p => bI (mk U L 31 0 p)) (fun p => bI (mk U L 31 0 p))
      refine ⟨BM_c this.1 ?_ ?_ ?_ ?_ rfl rfl rfl rfl, Sz.2.1, this.2.2.1, this.2.2.2⟩
      · rw [sN_n (k := 2) (by decide), sN_n (k := 2) (by decide), sN_n (k := 2) (by decide)]
      · rw [sN_n (k := 2) (by decide), sN_n (k := 2) (by decide), sN_n (k := 2) (by decide)]
      · rw [sN_n (k := 2) (by decide), sN_n (k := 2) (by decide), sN_n (k := 2) (by decide)]
      · rw [sN_n (k := 2) (by decide), sN_n (k := 2) (by decide), sN_n (k := 2) (by decide)]
    have S2 := rep _ S1
    have ha2 : ¬ ah = sN hm 242 (fun p => bI (mk U L 31 0 p)) 48 300 4 := by
      rw [sN_n (by decide)]
      exact ha
    have HL1 : HM (sN hm 242 (fun p => bI (mk U L 31 0 p)) 48) U L := HM_c (sN_n (by decide)) HL
    rw [fx_s (m' + 1), fx_s (m' + 1), eXB_s HU, eMB_s HL, if_neg (nI_nlt (by omega) (by omega))]
    by_cases c : mn ≤ mks U L 31
    · rw [if_neg (nI_nlt c (by omega)), if_pos (nI_le c (by omega)), if_neg (nI_nlt c (by omega))]
      exact ⟨_, _, _, rfl, rfl, S2⟩
    · rw [if_pos (nI_lt (by omega) (by omega)), if_neg (fun e => by have := (nI_eq (by omega) (by omega)).mp e; omega), if_neg (nI_leN (by omega) (by omega) c), if_neg (nI_ge (by omega) (by omega)), if_neg ha2]
      obtain ⟨n, hn, en⟩ := NS_n S1
      have en2 := (NS_300 S1).trans en
      by_cases c9 : n = 9999
      · subst c9
        rw [if_pos (by rw [en]; rfl), M_wears0 en2, cl2_s, fx_s, en2, show nI k + nI 9999 - nI 9999 = nI k from add_sub4 _ _, eMB_s HL1, if_neg (nI_leN (by omega) (by omega) c), if_neg (nI_ge (by omega) (by omega)), if_pos (by rw [sN_n (by decide), en2]), if_pos (nI_lt (by omega) (by omega))]
        exact ⟨_, _, _, rfl, rfl, rep _ S2⟩
      · obtain ⟨hx', hm', s, b1, b2, b3, b4, b5⟩ := night C S1 hpp (show n < 9999 by omega) en
        have en3 := (NS_300 b3).trans b5
        rw [if_neg (fun e => by rw [en] at e; have := (l_eq (N := 9999) (c := 9999) rfl (by decide) (by omega)).mp e; omega), b1, cl1_s, M_wears1 en2 (by omega) b2, cl2_s, en2, en3, nI_1, nI_add, nI_subn (by omega), show k + (n + 1) - n = k + 1 by omega]
        exact ih (k + 1) (nI n) hx' hm' (m' + 1) (by omega) b3 (by rw [en3]; exact fun e => by have := (nI_eq (by omega) (by omega)).mp e; omega) (by omega)
theorem st_even : St_even (II LWd) := by
  intro tt hx hm a0 a1 a2 H
  unfold mX0_even mX5_even
  rw [X_wi1 a0 30 30 (by decide), X_isSum, X_wi1 a2 48 48 (by decide), M_isNights, M_wi1 a2 48 48 (by decide)]
  cases h1 : nR (a0 - 1) 30 with
  | false => exact ⟨-1, hx, hm, rfl, rfl, H⟩
  | true =>
    cases h2 : nR a1 51 with
    | false => exact ⟨-1, hx, hm, rfl, rfl, H⟩
    | true =>
      cases h3 : nR (a2 - 1) 48 with
      | false => exact ⟨-1, hx, hm, rfl, rfl, H⟩
      | true =>
        obtain ⟨n0, hn0, _, e0'⟩ := nR_of h1
        have e0 : a0 = nI (n0 + 1) := sub1_of e0'
        obtain ⟨pp, hpp, _, e2⟩ := nR_of h2
        obtain ⟨mn, hmn, _, e3'⟩ := nR_of h3
        have e3 : a2 = nI (mn + 1) := sub1_of e3'
        subst e0 e2 e3
        obtain ⟨h8, t1, t2, t3, t4, t5⟩ := tr_0 H
        obtain ⟨n, hn, en⟩ := NS_n t5
        have en2 := (NS_300 t5).trans en
        obtain ⟨r, hx', hm', q1, q2, q3⟩ := even_loop t4 (n0 := n0 + 1) (pp := pp) (mn := mn + 1) (by omega) (by omega) (by omega) (n0 + 1) 0 (-1) h8 (shE hm 0) FU (by omega) t5 (by rw [en2]; exact fun e => ne_m1 (by omega) e.symm) (by show n0 + 1 + 1 < 100000; omega)
        rw [cl1_s, nm_s, bI_t, i10, cl1_s, i10, cl1_s, i10, t1, cl1_s, cl1_s, nm_s, show bI (true && true) = 1 from rfl, i10, cl1_s, i10, t3, cl1_s]
        exact ⟨r, hx', tbE hm' 0, q1, q2, tr_b H t2 q3⟩
