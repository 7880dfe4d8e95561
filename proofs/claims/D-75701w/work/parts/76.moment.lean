/-! what a law must answer; a night -/
set_option maxRecDepth 100000
theorem is_117 (h : Hp) (v : Int32) : mX2_is h 117 v = some (u2 h 31 117 v) := by
  unfold mX2_is ck
  rw [if_neg (by decide)]
  rfl
theorem is_108 (h : Hp) (v : Int32) : mX2_is h 108 v = some (u2 h 31 108 v) := by
  unfold mX2_is ck
  rw [if_neg (by decide)]
  rfl
theorem is_99 (h : Hp) (v : Int32) : mX2_is h 99 v = some (u2 h 31 99 v) := by
  unfold mX2_is ck
  rw [if_neg (by decide)]
  rfl
theorem is_101 (h : Hp) (v : Int32) : mX2_is h 101 v = some (u2 h 31 101 v) := by
  unfold mX2_is ck
  rw [if_neg (by decide)]
  rfl
theorem is_97 (h : Hp) (v : Int32) : mX2_is h 97 v = some (u2 h 31 97 v) := by
  unfold mX2_is ck
  rw [if_neg (by decide)]
  rfl
theorem is_98 (h : Hp) (v : Int32) : mX2_is h 98 v = some (u2 h 31 98 v) := by
  unfold mX2_is ck
  rw [if_neg (by decide)]
  rfl
theorem is_104 (h : Hp) (v : Int32) : mX2_is h 104 v = some (u2 h 31 104 v) := by
  unfold mX2_is ck
  rw [if_neg (by decide)]
  rfl
theorem is_107 (h : Hp) (v : Int32) : mX2_is h 107 v = some (u2 h 31 107 v) := by
  unfold mX2_is ck
  rw [if_neg (by decide)]
  rfl
theorem is_116 (h : Hp) (v : Int32) : mX2_is h 116 v = some (u2 h 31 116 v) := by
  unfold mX2_is ck
  rw [if_neg (by decide)]
  rfl
theorem is_119 (h : Hp) (v : Int32) : mX2_is h 119 v = some (u2 h 31 119 v) := by
  unfold mX2_is ck
  rw [if_neg (by decide)]
  rfl
/-- the letters of the ten facts -/
def fct (i : Nat) : Nat := ([117, 108, 99, 101, 97, 98, 104, 107, 116, 119] : List Nat).getD i 0
def hld (v : Int32) : Int32 := jmax 0 (jmin 25 v)
theorem hld_n (v : Int32) : ∃ n, n ≤ 25 ∧ hld v = nI n := by
  unfold hld jmin jmax
  by_cases h : v < 25
  · rw [if_pos h]
    by_cases h2 : (0 : Int32) < v
    · rw [if_pos h2]
      obtain ⟨j, hj, e⟩ := nI_of (x := v) (fun h3 => by
        have a := Int32.lt_iff_toInt_lt.mp h2
        have b := Int32.lt_iff_toInt_lt.mp h3
        omega)
      refine ⟨j, ?_, e⟩
      rw [e] at h
      have := (nI_ltI (b := 25) hj (by decide)).mp h
      omega
    · rw [if_neg h2]
      exact ⟨0, by omega, rfl⟩
  · rw [if_neg h, if_pos (by decide)]
    exact ⟨25, by omega, rfl⟩
/-- the law's relation: for every moment the two answer alike -/
def LWd : LWt := fun tt many letters clauses codes cOf cFr cHf cTo => many = clauses ∧ ∀ V : Nat → Int32, ∃ (sx : Bool) (tv ty : Int32),
  (∀ hx : Hp, hx 70 3 = many → hx 71 = letters → (∀ i, i < 10 → hx 31 (fct i) = V i) → (∃ h', mSays tt hx 120 = some (bI sx, h') ∧ Ex [30] hx h') ∧ (∃ h', mTells tt hx 118 0 = some (tv, h') ∧ Ex [30] hx h') ∧ ∃ h', mTells tt hx 121 1 = some (ty, h') ∧ Ex [30] hx h') ∧
  (∀ hm : Hp, hm 300 15 = clauses → hm 222 = codes → hm 223 = cOf → hm 224 = cFr → hm 225 = cHf → hm 226 = cTo → (∀ i, i < 10 → hm 228 i = V i) → (∃ q h', mX5_firstOf hm 120 = some (q, h') ∧ Ex [227] hm h' ∧ (clauses ≤ q ↔ sx = false)) ∧ (∃ h', mX5_wornBy hm 118 0 = some (hld tv, h') ∧ Ex [227] hm h') ∧ ∃ h', mX5_wornBy hm 121 1 = some (hld ty, h') ∧ Ex [227] hm h')
theorem i10cs {i : Nat} (h : i < 10) : i = 0 ∨ i = 1 ∨ i = 2 ∨ i = 3 ∨ i = 4 ∨ i = 5 ∨ i = 6 ∨ i = 7 ∨ i = 8 ∨ i = 9 := by omega
def mvl (u l p g c k n w : Int32) (sa sb : Int32) : Nat → Int32 := fun i => ([u, l, jrem p 8, p / 8, sa + 4, sb + 3, c, jrem k 100, jrem n 100, jrem w 10] : List Int32).getD i 0
theorem side_t : ∀ g : Fin 63, mX0_sideOf (nI g.val) = some (sA g.val) ∧ mX0_aheadOf (nI g.val) = some (sB g.val) := by decide +kernel
def lotN (x : Int32) : Int32 := jrem (25173 * x + 13849) 65536
theorem lotN_n {x : Nat} (h : x < 65536) : ∃ y, y < 65536 ∧ lotN (nI x) = nI y := by
  refine ⟨(25173 * x + 13849) % 65536, Nat.mod_lt _ (by decide), ?_⟩
  unfold lotN
  rw [show (25173 : Int32) * nI x + 13849 = nI (25173 * x + 13849) from (show nI 25173 * nI x + nI 13849 = _ by rw [pk_mul, nI_add])]
  exact jrem_s (d := 65536) (by omega) (by decide) (by decide)
/-- a moment laid by the class -/
theorem X_mom {b : Nat} (hb : b = 40 ∨ b = 50) {h : Hp} {g : Nat} (hg : g < 63) (u l p c k : Int32) : ∃ h4 h7 h9, mX2_of h u l p (nI g) = some h4 ∧ h4 b 2 = h b 2 ∧ mX3_draw b h4 = some (jrem (lotN (h b 3)) 10, h7) ∧ mX2_on h7 c k (h b 2) (jrem (lotN (h b 3)) 10) = some h9 ∧ Ex [31, b] h h9 ∧ h9 b 3 = lotN (h b 3) ∧ (∀ i, i ≠ 3 → h9 b i = h b i) ∧ ∀ i, i < 10 → h9 31 (fct i) = mvl u l p (nI g) c k (h b 2) (lotN (h b 3)) (sA g) (sB g) i := by
  have s := side_t ⟨g, hg⟩
  have s1 : mX0_sideOf (nI g) = some (sA g) := s.1
  have s2 : mX0_aheadOf (nI g) = some (sB g) := s.2
  have hb31 : b ≠ 31 := by omega
  refine ⟨(u2 (u2 (u2 (u2 (u2 (u2 h 31 117 u) 31 108 l) 31 99 (jrem p 8)) 31 101 (p / 8)) 31 97 (sA g + 4)) 31 98 (sB g + 3)), (u2 (u2 (u2 (u2 (u2 (u2 (u2 h 31 117 u) 31 108 l) 31 99 (jrem p 8)) 31 101 (p / 8)) 31 97 (sA g + 4)) 31 98 (sB g + 3)) b 3 (lotN (h b 3))), (u2 (u2 (u2 (u2 (u2 (u2 (u2 (u2 (u2 (u2 (u2 h 31 117 u) 31 108 l) 31 99 (jrem p 8)) 31 101 (p / 8)) 31 97 (sA g + 4)) 31 98 (sB g + 3)) b 3 (lotN (h b 3))) 31 104 c) 31 107 (jrem k 100)) 31 116 (jrem (h b 2) 100)) 31 119 (jrem (lotN (h b 3)) 10)), ?_, ?_, ?_, ?_, ?_, ?_, ?_, ?_⟩
  · unfold mX2_of
    rw [is_117, cl1_s, is_108, cl1_s, is_99, cl1_s, is_101, cl1_s, s1, cl1_s, is_97, cl1_s, s2, cl1_s, is_98, cl1_s]
  · rw [u2_n hb31, u2_n hb31, u2_n hb31, u2_n hb31, u2_n hb31, u2_n hb31]
  · unfold mX3_draw
    rw [nm_s, u2_e, upd_e, u2_n hb31, u2_n hb31, u2_n hb31, u2_n hb31, u2_n hb31, u2_n hb31]
    rfl
  · unfold mX2_on
    rw [is_104, cl1_s, is_107, cl1_s, is_116, cl1_s, is_119, cl1_s]
  · intro q hq
    have q1 : q ≠ 31 := fun e => hq (by rw [e]; simp)
    have q2 : q ≠ b := fun e => hq (by rw [e]; simp)
    rw [u2_n q1, u2_n q1, u2_n q1, u2_n q1, u2_n q2, u2_n q1, u2_n q1, u2_n q1, u2_n q1, u2_n q1, u2_n q1]
  · rw [u2_n hb31, u2_n hb31, u2_n hb31, u2_n hb31, u2_e, upd_e]
  · intro i hi
    rw [u2_n hb31, u2_n hb31, u2_n hb31, u2_n hb31, u2_e, upd_n hi, u2_n hb31, u2_n hb31, u2_n hb31, u2_n hb31, u2_n hb31, u2_n hb31]
  · intro i hi
    rcases hb with e | e <;> subst e <;> rcases i10cs hi with e | e | e | e | e | e | e | e | e | e <;> subst e <;> rfl
