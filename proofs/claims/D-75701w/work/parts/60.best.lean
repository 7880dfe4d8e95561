/-! best, evenest, splint -/
set_option maxRecDepth 100000
theorem g9_t : ∀ g : Fin 63, jrem (nI g.val) 9 - 4 = sA g.val ∧ nI g.val / 9 - 3 = sB g.val := by decide +kernel
theorem g9A {g : Nat} (hg : g < 63) : jrem (nI g) 9 - 4 = sA g := (g9_t ⟨g, hg⟩).1
theorem g9B {g : Nat} (hg : g < 63) : nI g / 9 - 3 = sB g := (g9_t ⟨g, hg⟩).2
theorem M_openingOf {h : Hp} {U L : Nat → Nat} (H : HM h U L) {g : Nat} (hg : g < 63) : mX5_openingOf h (nI g) = some (nI (mxo U L g 48)) := by
  unfold mX5_openingOf
  rw [g9A hg, g9B hg, M_opening H hg, cl1_s]
def amn (f : Nat → Nat) : Nat → Nat
  | 0 => 0
  | n + 1 => if f (amn f n) ≤ f (n + 1) then amn f n else n + 1
def amx (f : Nat → Nat) : Nat → Nat
  | 0 => 0
  | n + 1 => if f (n + 1) ≤ f (amx f n) then amx f n else n + 1
theorem amn_le (f : Nat → Nat) : ∀ n, amn f n ≤ n
  | 0 => Nat.le_refl _
  | n + 1 => by
    have := amn_le f n
    unfold amn
    split <;> omega
theorem amx_le (f : Nat → Nat) : ∀ n, amx f n ≤ n
  | 0 => Nat.le_refl _
  | n + 1 => by
    have := amx_le f n
    unfold amx
    split <;> omega
def mks (U L : Nat → Nat) (g : Nat) : Nat := cnt (mk U L g 0) 48
def hbst (U L : Nat → Nat) (h : Hp) : Nat → Hp
  | 0 => h
  | j + 1 => sN (sN (hbst U L h j) 2 (fun p => bI (mk U L (j + 1) 0 p)) 48) 2 (fun p => bI (mk U L (amx (mks U L) j) 0 p)) 48
theorem hbst_e (U L : Nat → Nat) (h : Hp) : ∀ j, Ex [2] h (hbst U L h j)
  | 0 => Ex_r _ _
  | j + 1 => fun k hk => ((Ex_sN _ 2 _ 48) k hk).trans (((Ex_sN _ 2 _ 48) k hk).trans (hbst_e U L h j k hk))
theorem Ex_HX {l : List Nat} {b : Nat} {h h' : Hp} {U L : Nat → Nat} (E : Ex l h h') (h3 : b + 3 ∉ l) (h2 : b + 2 ∉ l) (H : HX b h U L) : HX b h' U L := HX_c (E _ h3) (E _ h2) H
theorem Ex_HM {l : List Nat} {h h' : Hp} {U L : Nat → Nat} (E : Ex l h h') (h3 : 200 ∉ l) (H : HM h U L) : HM h' U L := HM_c (E _ h3) H
theorem mks_le (U L : Nat → Nat) (g : Nat) : mks U L g ≤ 48 := cnt_le _ _
theorem cnt_pos {P : Nat → Bool} : ∀ n, (∃ p, p < n ∧ P p = true) → 0 < cnt P n
  | 0, ⟨p, hp, _⟩ => absurd hp (Nat.not_lt_zero _)
  | n + 1, ⟨p, hp, h⟩ => by
    unfold cnt
    by_cases e : p = n
    · rw [← e, h]
      show 0 < _ + 1
      omega
    · have := cnt_pos n ⟨p, by omega, h⟩
      omega
def opn (U L : Nat → Nat) (g : Nat) : Nat := mxo U L g 48
theorem X_opn {b : Nat} {h : Hp} {U L : Nat → Nat} (H : HX b h U L) {g : Nat} (hg : g < 63) : mX3_opening b h (nI g) = some (nI (opn U L g)) := X_opening H hg
theorem M_opn {h : Hp} {U L : Nat → Nat} (H : HM h U L) {g : Nat} (hg : g < 63) : mX5_opening h (sA g) (sB g) = some (nI (opn U L g)) := M_opening H hg
theorem M_opnOf {h : Hp} {U L : Nat → Nat} (H : HM h U L) {g : Nat} (hg : g < 63) : mX5_openingOf h (nI g) = some (nI (opn U L g)) := M_openingOf H hg
theorem X_mks {b : Nat} {h : Hp} {U L : Nat → Nat} (H : HX b h U L) (hb : 2 < b) {g : Nat} (hg : g < 63) : mX3_marks b h (nI g) 0 = some (nI (mks U L g), sN h 2 (fun p => bI (mk U L g 0 p)) 48) := X_marks H hb hg (Nat.zero_le 50)
theorem M_mks {h : Hp} {U L : Nat → Nat} (H : HM h U L) {g : Nat} (hg : g < 63) : mX5_marks h (sA g) (sB g) 0 = some (nI (mks U L g), sN h 242 (fun p => bI (mk U L g 0 p)) 48) := M_marks H hg (Nat.zero_le 50)
theorem opn_le {U L : Nat → Nat} (hU : ∀ p, p < 48 → U p ≤ 25 ∧ L p ≤ 25) (g : Nat) : opn U L g ≤ 50 := mxo_le hU 48 (by omega)
def bst (f m : Nat → Nat) (w : Nat) : Int32 := if w = 0 then nI (amn f 62) else if w = 1 then nI (amx m 62) else if w = 2 then nI (f (amn f 62)) else nI (m (amx m 62))
theorem X_best {h : Hp} {U L : Nat → Nat} (H : HX 40 h U L) {w : Nat} (hw : w < 4) : ∃ h', Ex [2] h h' ∧ mX0_best h (nI w) = some (bst (opn U L) (mks U L) w, h') := by
  have hU := HU_of H
  have E := hbst_e U L h
  have hmx := opn_le hU
  refine ⟨if w = 3 then sN (hbst U L h 62) 2 (fun p => bI (mk U L (amx (mks U L) 62) 0 p)) 48 else hbst U L h 62, ?_, ?_⟩
  · split
    · exact fun k hk => ((Ex_sN _ 2 _ 48) k hk).trans (E 62 k hk)
    · exact E 62
  unfold mX0_best
  rw [X_in (nI w) 4 4 (by decide), cl1_s, nR_s hw (by omega), bI_t, i10]
  refine fx_g4 (fun j => nI (amn (opn U L) j)) (fun j => nI (amx (mks U L) j)) (fun j => nI (j + 1)) (fun j => hbst U L h j) 62 rfl rfl rfl rfl (by decide) (fun j hj k => ?_) (fun k => ?_)
  · have a1 := amn_le (opn U L) j
    have a2 := amx_le (mks U L) j
    have Hj : HX 40 (hbst U L h j) U L := Ex_HX (E j) (by decide) (by decide) H
    have Hk : HX 40 (sN (hbst U L h j) 2 (fun p => bI (mk U L (j + 1) 0 p)) 48) U L := HX_c (sN_n (by omega)) (sN_n (by omega)) Hj
    have b1 := hmx (j + 1)
    have b2 := hmx (amn (opn U L) j)
    have c1 := mks_le U L (j + 1)
    have c2 := mks_le U L (amx (mks U L) j)
    rw [if_neg (nl63 (by omega)), X_opn Hj (by omega), X_opn Hj (by omega), cl1_s, cl1_s]
    simp only [nm_s]
    rw [X_mks Hj (by omega) (by omega)]
    simp only [cl2_s]
    rw [X_mks Hk (by omega) (by omega)]
    simp only [cl2_s]
    rw [nI_1, amn, amx, hbst]
    by_cases q1 : opn U L (amn (opn U L) j) ≤ opn U L (j + 1)
    · rw [if_pos (nI_le q1 (by omega)), if_pos q1]
      by_cases q2 : mks U L (j + 1) ≤ mks U L (amx (mks U L) j)
      · rw [if_pos (nI_le q2 (by omega)), if_pos q2]
      · rw [if_neg (nI_leN (by omega) (by omega) q2), if_neg q2]
    · rw [if_neg (nI_leN (by omega) (by omega) q1), if_neg q1]
      by_cases q2 : mks U L (j + 1) ≤ mks U L (amx (mks U L) j)
      · rw [if_pos (nI_le q2 (by omega)), if_pos q2]
      · rw [if_neg (nI_leN (by omega) (by omega) q2), if_neg q2]
  · have a1 := amn_le (opn U L) 62
    have a2 := amx_le (mks U L) 62
    have Hj : HX 40 (hbst U L h 62) U L := Ex_HX (E 62) (by decide) (by decide) H
    rw [if_pos (show (63 : Int32) ≤ nI (62 + 1) by decide)]
    simp only [nm_s]
    rw [X_opn Hj (by omega), cl1_s, X_mks Hj (by omega) (by omega), cl2_s]
    unfold bst
    generalize amn (opn U L) 62 = v1
    generalize amx (mks U L) 62 = v2
    generalize opn U L v1 = v3
    generalize mks U L v2 = v4
    generalize hbst U L h 62 = v5
    rcases n4 hw with e | e | e | e <;> subst e <;> rfl
def lo1 (f : Nat → Nat) : Nat → Nat
  | 0 => 0
  | j + 1 => f j
def lo2 (d : Nat) (f : Nat → Nat) : Nat → Nat
  | 0 => d
  | j + 1 => f j
theorem lo1_0 (f : Nat → Nat) : lo1 f 0 = 0 := rfl
theorem lo1_s (f : Nat → Nat) (j : Nat) : lo1 f (j + 1) = f j := rfl
theorem lo2_0 (d : Nat) (f : Nat → Nat) : lo2 d f 0 = d := rfl
theorem lo2_s (d : Nat) (f : Nat → Nat) (j : Nat) : lo2 d f (j + 1) = f j := rfl
theorem amn_0 (f : Nat → Nat) : amn f 0 = 0 := rfl
theorem amx_0 (f : Nat → Nat) : amx f 0 = 0 := rfl
def hbsm (U L : Nat → Nat) (h : Hp) : Nat → Hp
  | 0 => h
  | j + 1 => sN (hbsm U L h j) 242 (fun p => bI (mk U L j 0 p)) 48
theorem hbsm_e (U L : Nat → Nat) (h : Hp) : ∀ j, Ex [242] h (hbsm U L h j)
  | 0 => Ex_r _ _
  | j + 1 => fun k hk => ((Ex_sN _ 242 _ 48) k hk).trans (hbsm_e U L h j k hk)
theorem M_best {h : Hp} {U L : Nat → Nat} (H : HM h U L) {w : Nat} (hw : w < 4) : ∃ h', Ex [242] h h' ∧ mX5_best h (nI w) = some (bst (opn U L) (mks U L) w, h') := by
  have hU := HV_of H
  have E := hbsm_e U L h
  have hmx := opn_le hU
  refine ⟨hbsm U L h 63, E 63, ?_⟩
  unfold mX5_best
  rw [M_wi (nI w) 3 4 (by decide), cl1_s, nR_s hw (by omega), bI_t, i10]
  refine fx_g6 (fun j => nI (lo1 (amn (opn U L)) j)) (fun j => nI (lo1 (amx (mks U L)) j)) (fun j => nI (lo2 1000000 (fun i => opn U L (amn (opn U L) i)) j)) (fun j => nI (lo2 0 (fun i => mks U L (amx (mks U L) i)) j)) (fun j => nI j) (fun j => hbsm U L h j) 63 rfl rfl rfl rfl rfl rfl (by decide) (fun j hj k => ?_) (fun k => ?_)
  · have Hj : HM (hbsm U L h j) U L := Ex_HM (E j) (by decide) H
    rw [if_neg (nl63 (by omega)), M_opnOf Hj hj, cl1_s, g9A hj, g9B hj, M_mks Hj hj, cl2_s, nI_1]
    simp only [nm_s]
    rw [show sN (hbsm U L h j) 242 (fun p => bI (mk U L j 0 p)) 48 = hbsm U L h (j + 1) from rfl]
    generalize hbsm U L h (j + 1) = H9
    have b1 := hmx j
    have c1 := mks_le U L j
    cases j with
    | zero =>
      have d1 : 0 < mks U L 0 := cnt_pos 48 (mk_ex U L (by omega) 0)
      rw [lo1_0, lo1_0, lo2_0, lo2_0, lo1_s, lo1_s, lo2_s, lo2_s, amn_0, amx_0]
      rw [if_neg (nI_leN (by omega) (by omega) (by omega)), if_neg (nI_leN (by omega) (by omega) (by omega)), M_min (by omega) (by omega), M_max (by omega) (by omega), cl1_s, cl1_s, Nat.min_eq_right (by omega), Nat.max_eq_right (by omega)]
    | succ i =>
      have a1 := amn_le (opn U L) i
      have a2 := amx_le (mks U L) i
      have b2 := hmx (amn (opn U L) i)
      have c2 := mks_le U L (amx (mks U L) i)
      rw [lo1_s, lo1_s, lo2_s, lo2_s, lo1_s, lo1_s, lo2_s, lo2_s]
      rw [M_min (by omega) (by omega), M_max (by omega) (by omega)]
      simp only [cl1_s]
      rw [amn, amx]
      by_cases q1 : opn U L (amn (opn U L) i) ≤ opn U L (i + 1)
      · rw [if_pos (nI_le q1 (by omega)), if_pos q1, Nat.min_eq_left q1]
        by_cases q2 : mks U L (i + 1) ≤ mks U L (amx (mks U L) i)
        · rw [if_pos (nI_le q2 (by omega)), if_pos q2, Nat.max_eq_left q2]
        · rw [if_neg (nI_leN (by omega) (by omega) q2), if_neg q2, Nat.max_eq_right (by omega)]
      · rw [if_neg (nI_leN (by omega) (by omega) q1), if_neg q1, Nat.min_eq_right (by omega)]
        by_cases q2 : mks U L (i + 1) ≤ mks U L (amx (mks U L) i)
        · rw [if_pos (nI_le q2 (by omega)), if_pos q2, Nat.max_eq_left q2]
        · rw [if_neg (nI_leN (by omega) (by omega) q2), if_neg q2, Nat.max_eq_right (by omega)]
  · rw [if_pos (show (63 : Int32) ≤ nI 63 by decide)]
    simp only [nm_s, lo1, lo2]
    unfold bst
    generalize hbsm U L h 63 = v5
    generalize amn (opn U L) 62 = v1
    generalize amx (mks U L) 62 = v2
    generalize opn U L v1 = v3
    generalize mks U L v2 = v4
    rcases n4 hw with e | e | e | e <;> subst e <;> rfl
theorem st_best (LW : LWt) : St_best (II LW) := by
  intro tt hx hm a0 H
  obtain ⟨U, L, HU, HL⟩ := BM_HX H.1
  cases h1 : nR a0 4 with
  | false =>
    refine ⟨-1, hx, hm, ?_, ?_, H⟩
    · unfold mX0_best
      rw [X_in a0 4 4 (by decide), cl1_s, h1, bI_f, i00]
    · unfold mX5_best
      rw [M_wi a0 3 4 (by decide), cl1_s, h1, bI_f, i00]
  | true =>
    obtain ⟨w, hw, _, e0⟩ := nR_of h1
    subst e0
    obtain ⟨hx', ex, rx⟩ := X_best HU hw
    obtain ⟨hm', em, rm⟩ := M_best HL hw
    exact ⟨_, hx', hm', rx, rm, II_same (SX_e ex (by decide)) (SM_e em (by decide)) H⟩
