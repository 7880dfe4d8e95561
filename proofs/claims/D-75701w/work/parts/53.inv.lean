/-! bounds, the invariant -/
set_option maxRecDepth 100000
def nR (x : Int32) (N : Nat) : Bool := decide (0 ≤ x.toInt ∧ x.toInt < (N : Int))
def bI (b : Bool) : Int32 := if b then 1 else 0
theorem bz_bI {ρ : Type} (b : Bool) (M : Option ρ) : bz (bI b) M = M := by cases b <;> rfl
theorem bI_t : bI true = 1 := rfl
theorem bI_f : bI false = 0 := rfl
theorem i10 {ρ : Type} (A B : ρ) : (if (1 : Int32) = 0 then A else B) = B := if_neg (by decide)
theorem i00 {ρ : Type} (A B : ρ) : (if (0 : Int32) = 0 then A else B) = A := if_pos rfl
theorem nR_of {x : Int32} {N : Nat} (h : nR x N = true) : ∃ p, p < N ∧ p < 2 ^ 31 ∧ x = nI p := by
  have h1 := of_decide_eq_true h
  obtain ⟨j, hj, e⟩ := nI_of (x := x) (fun h2 => by
    have h3 := Int32.lt_iff_toInt_lt.mp h2
    rw [show (0 : Int32).toInt = 0 by decide] at h3
    omega)
  refine ⟨j, ?_, hj, e⟩
  rw [e, nI_toInt hj] at h1
  omega
theorem nR_s {p N : Nat} (h : p < N) (hp : p < 2 ^ 31) : nR (nI p) N = true := by
  unfold nR
  rw [nI_toInt hp]
  exact decide_eq_true (by omega)
theorem nR_n {p N : Nat} (h : N ≤ p) (hp : p < 2 ^ 31) : nR (nI p) N = false := by
  unfold nR
  rw [nI_toInt hp]
  exact decide_eq_false (by omega)
theorem wi_sp (x a b : Int32) : mX0_within x a b = some (bI (decide (a.toInt ≤ x.toInt ∧ x.toInt ≤ b.toInt))) := by
  unfold mX0_within
  simp only [nm_s]
  by_cases h1 : x < a
  · rw [if_pos h1, bz_0, decide_eq_false]
    · rfl
    · have := Int32.lt_iff_toInt_lt.mp h1
      omega
  · rw [if_neg h1]
    have h1' : a.toInt ≤ x.toInt := Int.not_lt.mp (fun h => h1 (Int32.lt_iff_toInt_lt.mpr h))
    by_cases h2 : b < x
    · rw [if_pos h2, bz_0, decide_eq_false]
      · rfl
      · have := Int32.lt_iff_toInt_lt.mp h2
        omega
    · rw [if_neg h2, bz_1, decide_eq_true]
      · rfl
      · exact ⟨h1', Int.not_lt.mp (fun h => h2 (Int32.lt_iff_toInt_lt.mpr h))⟩
theorem in_sp (x n : Int32) : mX0_in x n = some (bI (decide (0 ≤ x.toInt ∧ x.toInt < n.toInt))) := by
  unfold mX0_in
  simp only [nm_s]
  by_cases h1 : x < 0
  · rw [if_pos h1, bz_0, decide_eq_false]
    · rfl
    · have := Int32.lt_iff_toInt_lt.mp h1
      rw [show (0 : Int32).toInt = 0 by decide] at this
      omega
  · rw [if_neg h1]
    have h1' : 0 ≤ x.toInt := Int.not_lt.mp (fun h => h1 (Int32.lt_iff_toInt_lt.mpr h))
    by_cases h2 : n ≤ x
    · rw [if_pos h2, bz_0, decide_eq_false]
      · rfl
      · have := Int32.le_iff_toInt_le.mp h2
        omega
    · rw [if_neg h2, bz_1, decide_eq_true]
      · rfl
      · exact ⟨h1', Int.not_le.mp (fun h => h2 (Int32.le_iff_toInt_le.mpr h))⟩
theorem win_sp (x a b : Int32) : mX5_in x a b = some (bI (decide (a.toInt ≤ x.toInt ∧ x.toInt ≤ b.toInt))) := wi_sp x a b
theorem dec_c {P Q : Prop} [Decidable P] [Decidable Q] (h : P ↔ Q) : some (bI (decide P)) = some (bI (decide Q)) := by rw [decide_eq_decide.mpr h]
theorem X_wi (x b : Int32) (N : Nat) (hb : b.toInt + 1 = N) : mX0_within x 0 b = some (bI (nR x N)) := (wi_sp x 0 b).trans (dec_c (by rw [show (0 : Int32).toInt = 0 by decide]; omega))
theorem M_wi (x b : Int32) (N : Nat) (hb : b.toInt + 1 = N) : mX5_in x 0 b = some (bI (nR x N)) := X_wi x b N hb
theorem X_wi1 (x b : Int32) (N : Nat) (hb : b.toInt = N) : mX0_within x 1 b = some (bI (nR (x - 1) N)) := (wi_sp x 1 b).trans (dec_c (by
  rw [show (1 : Int32).toInt = 1 by decide, Int32.toInt_sub, show (1 : Int32).toInt = 1 by decide]
  have h1 := Int32.toInt_lt x
  have h2 := Int32.le_toInt x
  have h3 := Int32.toInt_lt b
  simp only [Int.bmod]
  split <;> omega))
theorem M_wi1 (x b : Int32) (N : Nat) (hb : b.toInt = N) : mX5_in x 1 b = some (bI (nR (x - 1) N)) := X_wi1 x b N hb
theorem X_in (x n : Int32) (N : Nat) (hn : n.toInt = N) : mX0_in x n = some (bI (nR x N)) := (in_sp x n).trans (dec_c (by omega))
theorem X_isCast (x : Int32) : mX0_isCast x = some (bI (nR x 2)) := by
  unfold mX0_isCast
  rw [X_in x 2 2 (by decide), cl1_s, bz_bI]
theorem X_isPlace (x : Int32) : mX0_isPlace x = some (bI (nR x 48)) := by
  unfold mX0_isPlace
  rw [X_in x 48 48 (by decide), cl1_s, bz_bI]
theorem M_isCast (x : Int32) : mX5_isCast x = some (bI (nR x 2)) := by
  unfold mX5_isCast
  rw [M_wi x 1 2 (by decide), cl1_s, bz_bI]
theorem M_isPlace (x : Int32) : mX5_isPlace x = some (bI (nR x 48)) := by
  unfold mX5_isPlace
  rw [M_wi x 47 48 (by decide), cl1_s, bz_bI]
theorem M_isSum (x : Int32) : mX5_isSum x = some (bI (nR x 51)) := by
  unfold mX5_isSum
  rw [M_wi x 50 51 (by decide), cl1_s, bz_bI]
theorem X_isSum (x : Int32) : mX0_within x 0 50 = some (bI (nR x 51)) := X_wi x 50 51 (by decide)
/-- two numbers of a glide -/
def gR (a b : Int32) : Bool := nR (a + 4) 9 && nR (b + 3) 7
theorem wi_4 (x : Int32) : mX0_within x (-4) 4 = some (bI (nR (x + 4) 9)) := (wi_sp x (-4) 4).trans (dec_c (by
  rw [show (-4 : Int32).toInt = -4 by decide, Int32.toInt_add, show (4 : Int32).toInt = 4 by decide]
  have h1 := Int32.toInt_lt x
  have h2 := Int32.le_toInt x
  simp only [Int.bmod]
  split <;> omega))
theorem wi_3 (x : Int32) : mX0_within x (-3) 3 = some (bI (nR (x + 3) 7)) := (wi_sp x (-3) 3).trans (dec_c (by
  rw [show (-3 : Int32).toInt = -3 by decide, Int32.toInt_add, show (3 : Int32).toInt = 3 by decide]
  have h1 := Int32.toInt_lt x
  have h2 := Int32.le_toInt x
  simp only [Int.bmod]
  split <;> omega))
theorem X_isGlide (a b : Int32) : mX0_isGlide a b = some (bI (gR a b)) := by
  unfold mX0_isGlide gR
  rw [wi_4, cl1_s, wi_3]
  simp only [nm_s, cl1_s]
  cases nR (a + 4) 9 <;> cases nR (b + 3) 7 <;> rfl
theorem M_isGlide (a b : Int32) : mX5_isGlide a b = some (bI (gR a b)) := X_isGlide a b
theorem add_sub4 (x y : Int32) : x + y - y = x := by
  apply Int32.toBitVec_inj.mp
  show x.toBitVec + y.toBitVec - y.toBitVec = _
  exact BitVec.add_sub_cancel _ _
theorem gl_all : ∀ i : Fin 9, ∀ j : Fin 7, nI i.val - 4 = sA (9 * j.val + i.val) ∧ nI j.val - 3 = sB (9 * j.val + i.val) ∧ mX0_glideAt (nI i.val - 4) (nI j.val - 3) = some (nI (9 * j.val + i.val)) := by decide +kernel
theorem gR_of {a b : Int32} (h : gR a b = true) : ∃ g, g < 63 ∧ a = sA g ∧ b = sB g ∧ mX0_glideAt a b = some (nI g) ∧ mX5_glideOf a b = some (nI g) := by
  unfold gR at h
  rw [Bool.and_eq_true] at h
  obtain ⟨i, hi, _, ei⟩ := nR_of h.1
  obtain ⟨j, hj, _, ej⟩ := nR_of h.2
  have ea : a = nI i - 4 := by rw [← ei, add_sub4]
  have eb : b = nI j - 3 := by rw [← ej, add_sub4]
  have H := gl_all ⟨i, hi⟩ ⟨j, hj⟩
  refine ⟨9 * j + i, by omega, ea.trans H.1, eb.trans H.2.1, ?_, ?_⟩
  · rw [ea, eb]
    exact H.2.2
  · rw [ea, eb]
    exact H.2.2
/-- a row of values laid at a place, the first n -/
def sN (h : Hp) (k : Nat) (f : Nat → Int32) (n : Nat) : Hp := fun q => if q = k then (fun i => if i < n then f i else h k i) else h q
theorem sN_0 (h : Hp) (k : Nat) (f : Nat → Int32) : sN h k f 0 = h := by
  funext q i
  unfold sN
  by_cases e : q = k
  · rw [if_pos e, e]; rfl
  · rw [if_neg e]
theorem sN_s (h : Hp) (k : Nat) (f : Nat → Int32) (n : Nat) : u2 (sN h k f n) k n (f n) = sN h k f (n + 1) := by
  funext q i
  unfold u2 sN upd
  by_cases e : q = k
  · simp only [e, if_true]
    by_cases e2 : i = n
    · rw [if_pos e2, if_pos (by omega), e2]
    · rw [if_neg e2]
      by_cases e3 : i < n
      · rw [if_pos e3, if_pos (by omega)]
      · rw [if_neg e3, if_neg (by omega)]
  · simp only [e, if_false]
theorem sN_n {h : Hp} {k : Nat} {f : Nat → Int32} {n q : Nat} (e : q ≠ k) : sN h k f n q = h q := by
  unfold sN
  rw [if_neg e]
theorem sN_k {h : Hp} {k : Nat} {f : Nat → Int32} {n i : Nat} (e : i < n) : sN h k f n k i = f i := by
  unfold sN
  rw [if_pos rfl, if_pos e]
/-- all places but some -/
def Ex (l : List Nat) (h h' : Hp) : Prop := ∀ k, k ∉ l → h' k = h k
theorem Ex_r (l : List Nat) (h : Hp) : Ex l h h := fun _ _ => rfl
theorem Ex_t {l l' : List Nat} {a b c : Hp} (h1 : Ex l a b) (h2 : Ex l' b c) : Ex (l ++ l') a c := fun k hk => (h2 k (fun e => hk (List.mem_append_right _ e))).trans (h1 k (fun e => hk (List.mem_append_left _ e)))
theorem Ex_sN (h : Hp) (k : Nat) (f : Nat → Int32) (n : Nat) : Ex [k] h (sN h k f n) := fun q hq => sN_n (fun e => hq (by rw [e]; exact List.mem_singleton.mpr rfl))
theorem Ex_u2 (h : Hp) (k i : Nat) (v : Int32) : Ex [k] h (u2 h k i v) := fun q hq => by
  unfold u2
  rw [if_neg (fun e => hq (by rw [e]; exact List.mem_singleton.mpr rfl))]
/-- a bench (of the class) against rows of the reference -/
def BR (hx : Hp) (b : Nat) (hs : Nat → Int32) (w0 w1 lt nt : Int32) : Prop := (∃ U L, HX b hx U L ∧ ∀ p, p < 48 → hs p = nI (L p) ∧ hs (48 + p) = nI (U p)) ∧ hx (b + 4) 0 = w0 ∧ hx (b + 4) 1 = w1 ∧ (∃ x, x < 65536 ∧ hx b 3 = nI x ∧ lt = nI x) ∧ ∃ n, n ≤ 9999 ∧ hx b 2 = nI n ∧ nt = nI n
def BM (hx hm : Hp) (b : Nat) : Prop := BR hx b (hm 200) (hm 201 0) (hm 201 1) (hm 300 3) (hm 300 4)
/-- a glide one character on -/
def stc (g : Nat) (c : Int32) : Nat := if c = 46 then 31 else if c = 108 then (if g % 9 = 0 then g else g - 1) else if c = 114 then (if g % 9 = 8 then g else g + 1) else if c = 102 then (if g / 9 = 0 then g else g - 9) else if c = 98 then (if g / 9 = 6 then g else g + 9) else g
def gaf (c : Nat → Int32) : Nat → Nat
  | 0 => 31
  | n + 1 => stc (gaf c n) (c n)
theorem stc_lt {g : Nat} (h : g < 63) (c : Int32) : stc g c < 63 := by
  unfold stc
  repeat' split
  all_goals omega
theorem gaf_lt (c : Nat → Int32) : ∀ n, gaf c n < 63
  | 0 => Nat.le_of_ble_eq_true rfl
  | n + 1 => stc_lt (gaf_lt c n) _
def IOff (hx hm : Hp) : Prop := ∀ p, p < 48 → hx 1 p = hm 202 p ∧ (hx 1 p = 0 ∨ hx 1 p = 1)
def ITape (hx hm : Hp) : Prop := (∃ t, t ≤ 260 ∧ hx 100 10 = nI t ∧ hm 300 6 = nI t) ∧ ∀ i, i < 260 → hx 8 i = hm 205 i
def IPath (hx hm : Hp) : Prop := ∃ n, n ≤ 48 ∧ hx 100 4 = nI n ∧ hm 300 39 = nI n ∧ ∀ k, k < n → hx 3 k = nI (gaf (hm 234) (k + 1))
def IKept (hx hm : Hp) : Prop := (hx 100 11 = 0 ∧ hm 300 56 = 0) ∨ (hx 100 11 = 1 ∧ hm 300 56 = 1 ∧ BR hx 60 (fun i => hm 255 (100 + i)) (hm 255 196) (hm 255 197) (hm 255 198) (hm 255 199))
abbrev LWt : Type := TTy → Int32 → (Nat → Int32) → Int32 → (Nat → Int32) → (Nat → Int32) → (Nat → Int32) → (Nat → Int32) → (Nat → Int32) → Prop
def II (LW : LWt) (tt : TTy) (hx hm : Hp) : Prop := BM hx hm 40 ∧ IOff hx hm ∧ ITape hx hm ∧ IPath hx hm ∧ IKept hx hm ∧ LW tt (hx 70 3) (hx 71) (hm 300 15) (hm 222) (hm 223) (hm 224) (hm 225) (hm 226)
def pX : List Nat := [1, 3, 8, 40, 42, 43, 44, 60, 62, 63, 64, 70, 71, 100]
def pM : List Nat := [200, 201, 202, 205, 222, 223, 224, 225, 226, 234, 255]
def fM : List Nat := [3, 4, 6, 15, 39, 56]
def SX (h h' : Hp) : Prop := ∀ k, k ∈ pX → h' k = h k
def SM (h h' : Hp) : Prop := (∀ k, k ∈ pM → h' k = h k) ∧ ∀ i, i ∈ fM → h' 300 i = h 300 i
theorem SX_r (h : Hp) : SX h h := fun _ _ => rfl
theorem SM_r (h : Hp) : SM h h := ⟨fun _ _ => rfl, fun _ _ => rfl⟩
theorem SX_t {a b c : Hp} (h1 : SX a b) (h2 : SX b c) : SX a c := fun k hk => (h2 k hk).trans (h1 k hk)
theorem SM_t {a b c : Hp} (h1 : SM a b) (h2 : SM b c) : SM a c := ⟨fun k hk => (h2.1 k hk).trans (h1.1 k hk), fun k hk => (h2.2 k hk).trans (h1.2 k hk)⟩
theorem SX_e {l : List Nat} {a b : Hp} (h : Ex l a b) (hl : ∀ k, k ∈ pX → k ∉ l) : SX a b := fun k hk => h k (hl k hk)
theorem SM_e {l : List Nat} {a b : Hp} (h : Ex l a b) (hl : ∀ k, k ∈ 300 :: pM → k ∉ l) : SM a b := ⟨fun k hk => h k (hl k (List.mem_cons_of_mem _ hk)), fun i _ => by rw [h 300 (hl 300 (List.mem_cons_self ..))]⟩
theorem HX_c {b : Nat} {h h' : Hp} {U L : Nat → Nat} (e3 : h' (b + 3) = h (b + 3)) (e2 : h' (b + 2) = h (b + 2)) (H : HX b h U L) : HX b h' U L := fun p hp => by
  rw [e3, e2]
  exact H p hp
theorem BR_c {b : Nat} {h h' : Hp} {hs : Nat → Int32} {w0 w1 lt nt : Int32} (e0 : h' b = h b) (e2 : h' (b + 2) = h (b + 2)) (e3 : h' (b + 3) = h (b + 3)) (e4 : h' (b + 4) = h (b + 4)) (H : BR h b hs w0 w1 lt nt) : BR h' b hs w0 w1 lt nt := by
  obtain ⟨⟨U, L, H1, H2⟩, H3⟩ := H
  unfold BR
  rw [e0, e4]
  exact ⟨⟨U, L, HX_c e3 e2 H1, H2⟩, H3⟩
theorem II_same {LW : LWt} {tt : TTy} {hx hx' hm hm' : Hp} (sx : SX hx hx') (sm : SM hm hm') (H : II LW tt hx hm) : II LW tt hx' hm' := by
  obtain ⟨H1, H2, H3, H4, H5, H6⟩ := H
  refine ⟨?_, ?_, ?_, ?_, ?_, ?_⟩
  · unfold BM
    rw [sm.1 200 (by decide), sm.1 201 (by decide), sm.2 3 (by decide), sm.2 4 (by decide)]
    exact BR_c (sx 40 (by decide)) (sx 42 (by decide)) (sx 43 (by decide)) (sx 44 (by decide)) H1
  · unfold IOff
    rw [sx 1 (by decide), sm.1 202 (by decide)]
    exact H2
  · unfold ITape
    rw [sx 100 (by decide), sx 8 (by decide), sm.1 205 (by decide), sm.2 6 (by decide)]
    exact H3
  · unfold IPath
    rw [sx 100 (by decide), sx 3 (by decide), sm.1 234 (by decide), sm.2 39 (by decide)]
    exact H4
  · unfold IKept
    rw [sx 100 (by decide), sm.1 255 (by decide), sm.2 56 (by decide)]
    rcases H5 with H5 | ⟨a, b, H5⟩
    · exact Or.inl H5
    · exact Or.inr ⟨a, b, BR_c (sx 60 (by decide)) (sx 62 (by decide)) (sx 63 (by decide)) (sx 64 (by decide)) H5⟩
  · rw [sx 70 (by decide), sx 71 (by decide), sm.1 222 (by decide), sm.1 223 (by decide), sm.1 224 (by decide), sm.1 225 (by decide), sm.1 226 (by decide), sm.2 15 (by decide)]
    exact H6
