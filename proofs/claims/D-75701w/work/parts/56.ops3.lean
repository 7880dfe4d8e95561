/-! keep, undo, check -/
set_option maxRecDepth 100000
def tkG (b b2 : Nat) (g : Hp) (c : Nat) : Hp := u2 (sN g (b + 2 + c) (g (b2 + 2 + c)) 48) (b + 4) c ((sN g (b + 2 + c) (g (b2 + 2 + c)) 48) (b2 + 4) c)
theorem tkG_n {b b2 c k : Nat} {g : Hp} (h1 : k ≠ b + 2 + c) (h2 : k ≠ b + 4) : tkG b b2 g c k = g k := by
  unfold tkG
  rw [u2_n h2, sN_n h1]
theorem tkG_r {b b2 c p : Nat} {g : Hp} (hc : c < 2) (hp : p < 48) : tkG b b2 g c (b + 2 + c) p = g (b2 + 2 + c) p := by
  unfold tkG
  rw [u2_n (by omega), sN_k hp]
theorem tkG_w {b b2 c : Nat} {g : Hp} (hb : b + 10 ≤ b2 ∨ b2 + 10 ≤ b) (hc : c < 2) : tkG b b2 g c (b + 4) c = g (b2 + 4) c := by
  unfold tkG
  rw [u2_e, upd_e, sN_n (by omega)]
theorem tkG_v {b b2 c i : Nat} {g : Hp} (hc : c < 2) (hi : i ≠ c) : tkG b b2 g c (b + 4) i = g (b + 4) i := by
  unfold tkG
  rw [u2_e, upd_n hi, sN_n (by omega)]
def tkS (b b2 : Nat) (h : Hp) : Nat → Hp
  | 0 => h
  | c + 1 => tkG b b2 (tkS b b2 h c) c
def tkE (b b2 : Nat) (h : Hp) : Hp := u2 (u2 (tkS b b2 h 2) b 2 (tkS b b2 h 2 b2 2)) b 3 ((u2 (tkS b b2 h 2) b 2 (tkS b b2 h 2 b2 2)) b2 3)
theorem X_takes0 {b b2 : Nat} (hb : b + 10 ≤ b2 ∨ b2 + 10 ≤ b) (h : Hp) : mX3_takes b b2 h = some (tkE b b2 h) := by
  unfold mX3_takes
  refine fx_g2 (fun j => nI j) (fun j => tkS b b2 h j) 2 rfl rfl (by decide) (fun c hc k => ?_) (fun k => ?_)
  · simp only [nm_s]
    rw [if_neg (nl2 hc)]
    refine fx_g2 (fun j => nI j) (fun j => sN (tkS b b2 h c) (b + 2 + c) (tkS b b2 h c (b2 + 2 + c)) j) 48 rfl (sN_0 _ _ _) (by decide) (fun j hj k2 => ?_) (fun k2 => ?_)
    · rw [if_neg (nl48 hj), ck_s hc (by decide), ck_s hc (by decide), ck_s hj (by decide), ck_s hj (by decide), nI_clamp (by omega), nI_clamp (by omega), nI_1, sN_n (by omega), sN_s]
    · rw [if_pos (show (48 : Int32) ≤ nI 48 by decide), ck_s hc (by decide), ck_s hc (by decide), nI_clamp (by omega), nI_1]
      rfl
  · rw [if_pos (show (2 : Int32) ≤ nI 2 by decide)]
    rfl
theorem X_takes {b b2 : Nat} (hb : b + 10 ≤ b2 ∨ b2 + 10 ≤ b) (h : Hp) : ∃ h', mX3_takes b b2 h = some h' ∧ Ex [b, b + 2, b + 3, b + 4] h h' ∧ (∀ p, p < 48 → h' (b + 2) p = h (b2 + 2) p) ∧ (∀ p, p < 48 → h' (b + 3) p = h (b2 + 3) p) ∧ h' (b + 4) 0 = h (b2 + 4) 0 ∧ h' (b + 4) 1 = h (b2 + 4) 1 ∧ h' b 2 = h b2 2 ∧ h' b 3 = h b2 3 := by
  refine ⟨tkE b b2 h, X_takes0 hb h, fun k hk => ?_, fun p hp => ?_, fun p hp => ?_, ?_, ?_, ?_, ?_⟩
  · simp only [List.mem_cons, List.not_mem_nil, or_false, not_or] at hk
    unfold tkE
    rw [u2_n hk.1, u2_n hk.1, tkS, tkS, tkS, tkG_n (by omega) (by omega), tkG_n (by omega) (by omega)]
  · unfold tkE
    rw [u2_n (by omega), u2_n (by omega), tkS, tkS, tkS, tkG_n (by omega) (by omega)]
    exact tkG_r (c := 0) (by omega) hp
  · unfold tkE
    rw [u2_n (by omega), u2_n (by omega), tkS, tkS, tkS]
    rw [show tkG b b2 (tkG b b2 h 0) 1 (b + 3) p = tkG b b2 h 0 (b2 + 2 + 1) p from tkG_r (c := 1) (by omega) hp, tkG_n (by omega) (by omega)]
  · unfold tkE
    rw [u2_n (by omega), u2_n (by omega), tkS, tkS, tkS, tkG_v (by omega) (by omega), tkG_w hb (by omega)]
  · unfold tkE
    rw [u2_n (by omega), u2_n (by omega), tkS, tkS, tkS, tkG_w hb (by omega), tkG_n (by omega) (by omega)]
  · unfold tkE
    rw [u2_e, upd_n (by omega), u2_e, upd_e, tkS, tkS, tkS, tkG_n (by omega) (by omega), tkG_n (by omega) (by omega)]
  · unfold tkE
    rw [u2_e, upd_e, u2_n (by omega), tkS, tkS, tkS, tkG_n (by omega) (by omega), tkG_n (by omega) (by omega)]
/-- a bench taken over -/
theorem BR_takes {b b2 : Nat} {h h' : Hp} {hs : Nat → Int32} {w0 w1 lt nt : Int32} (E : (∀ p, p < 48 → h' (b + 2) p = h (b2 + 2) p) ∧ (∀ p, p < 48 → h' (b + 3) p = h (b2 + 3) p) ∧ h' (b + 4) 0 = h (b2 + 4) 0 ∧ h' (b + 4) 1 = h (b2 + 4) 1 ∧ h' b 2 = h b2 2 ∧ h' b 3 = h b2 3) (H : BR h b2 hs w0 w1 lt nt) : BR h' b hs w0 w1 lt nt := by
  obtain ⟨E2, E3, E4, E5, E6, E7⟩ := E
  obtain ⟨⟨U, L, H1, H2⟩, H3, H4, H5, H6⟩ := H
  refine ⟨⟨U, L, fun p hp => ?_, H2⟩, E4.trans H3, E5.trans H4, ?_, ?_⟩
  · rw [E2 p hp, E3 p hp]
    exact H1 p hp
  · rw [E7]
    exact H5
  · rw [E6]
    exact H6
/-- a row of values laid at a place from o on -/
def sO (h : Hp) (k o : Nat) (f : Nat → Int32) (n : Nat) : Hp := fun q => if q = k then (fun i => if o ≤ i ∧ i < o + n then f (i - o) else h k i) else h q
theorem sO_0 (h : Hp) (k o : Nat) (f : Nat → Int32) : sO h k o f 0 = h := by
  funext q i
  unfold sO
  by_cases e : q = k
  · rw [if_pos e, e]
    exact if_neg (by omega)
  · rw [if_neg e]
theorem sO_s (h : Hp) (k o : Nat) (f : Nat → Int32) (n : Nat) : u2 (sO h k o f n) k (o + n) (f n) = sO h k o f (n + 1) := by
  funext q i
  unfold u2 sO upd
  by_cases e : q = k
  · simp only [e, if_true]
    by_cases e2 : i = o + n
    · rw [if_pos e2, if_pos (by omega), e2]
      congr 1
      omega
    · rw [if_neg e2]
      by_cases e3 : o ≤ i ∧ i < o + n
      · rw [if_pos e3, if_pos (by omega)]
      · rw [if_neg e3, if_neg (by omega)]
  · simp only [e, if_false]
theorem sO_n {h : Hp} {k o : Nat} {f : Nat → Int32} {n q : Nat} (e : q ≠ k) : sO h k o f n q = h q := by
  unfold sO
  rw [if_neg e]
theorem sO_k {h : Hp} {k o : Nat} {f : Nat → Int32} {n i : Nat} (e : i < n) : sO h k o f n k (o + i) = f i := by
  unfold sO
  rw [if_pos rfl, if_pos (by omega)]
  congr 1
  omega
theorem sO_o {h : Hp} {k o : Nat} {f : Nat → Int32} {n i : Nat} (e : ¬ (o ≤ i ∧ i < o + n)) : sO h k o f n k i = h k i := by
  unfold sO
  rw [if_pos rfl, if_neg e]
def shE (h : Hp) (o : Nat) : Hp := u2 (u2 (u2 (u2 (sO h 255 o (h 200) 96) 255 (o + 96) (h 201 0)) 255 (o + 97) (h 201 1)) 255 (o + 98) (h 300 3)) 255 (o + 99) (h 300 4)
theorem M_shelves {h : Hp} {o : Nat} (ho : o ≤ 100) : mX5_shelves h (nI o) = some (shE h o) := by
  unfold mX5_shelves
  refine fx_g2 (fun j => nI j) (fun j => sO h 255 o (h 200) j) 96 rfl (sO_0 _ _ _ _) (by decide) (fun j hj k => ?_) (fun k => ?_)
  · simp only [nm_s]
    rw [if_neg (nl96 hj), ck_s hj (by decide), nI_add, ck_s (by omega) (by decide), nI_clamp (by omega), nI_clamp (by omega), nI_1, sO_n (by omega), sO_s]
  · rw [if_pos (show (96 : Int32) ≤ nI 96 by decide)]
    rw [show nI o + (96 : Int32) = nI (o + 96) from nI_add o 96, show nI o + (97 : Int32) = nI (o + 97) from nI_add o 97, show nI o + (98 : Int32) = nI (o + 98) from nI_add o 98, show nI o + (99 : Int32) = nI (o + 99) from nI_add o 99]
    simp only [nm_s]
    rw [ck_s (by omega) (by decide), ck_s (by omega) (by decide), ck_s (by omega) (by decide), ck_s (by omega) (by decide), nI_clamp (by omega), nI_clamp (by omega), nI_clamp (by omega), nI_clamp (by omega)]
    rfl
theorem shE_n {h : Hp} {o k : Nat} (e : k ≠ 255) : shE h o k = h k := by
  unfold shE
  rw [u2_n e, u2_n e, u2_n e, u2_n e, sO_n e]
theorem shE_k {h : Hp} {o i : Nat} (e : i < 96) : shE h o 255 (o + i) = h 200 i := by
  unfold shE
  rw [u2_e, upd_n (by omega), u2_e, upd_n (by omega), u2_e, upd_n (by omega), u2_e, upd_n (by omega), sO_k e]
theorem shE_o {h : Hp} {o i : Nat} (e : ¬ (o ≤ i ∧ i < o + 100)) : shE h o 255 i = h 255 i := by
  unfold shE
  rw [u2_e, upd_n (by omega), u2_e, upd_n (by omega), u2_e, upd_n (by omega), u2_e, upd_n (by omega), sO_o (by omega)]
theorem shE_96 (h : Hp) (o : Nat) : shE h o 255 (o + 96) = h 201 0 ∧ shE h o 255 (o + 97) = h 201 1 ∧ shE h o 255 (o + 98) = h 300 3 ∧ shE h o 255 (o + 99) = h 300 4 := by
  unfold shE
  refine ⟨?_, ?_, ?_, ?_⟩
  · rw [u2_e, upd_n (by omega), u2_e, upd_n (by omega), u2_e, upd_n (by omega), u2_e, upd_e]
  · rw [u2_e, upd_n (by omega), u2_e, upd_n (by omega), u2_e, upd_e]
  · rw [u2_e, upd_n (by omega), u2_e, upd_e]
  · rw [u2_e, upd_e]
theorem st_keep (LW : LWt) : St_keep (II LW) := by
  intro tt hx hm H
  obtain ⟨h', e1, e2, e3⟩ := X_takes (b := 60) (b2 := 40) (by omega) (u2 hx 100 11 1)
  unfold mX0_keep mX5_keep
  rw [show (100 : Int32) = nI 100 from rfl, M_shelves (by omega)]
  simp only [nm_s, cl1_s]
  rw [e1, cl1_s]
  obtain ⟨H1, H2, H3, H4, H5, H6⟩ := H
  have hn : ∃ n, n ≤ 9999 ∧ hx 40 2 = nI n ∧ hm 300 4 = nI n := H1.2.2.2.2
  obtain ⟨n, _, hn1, hn2⟩ := hn
  have f40 : h' 40 = hx 40 := e2 40 (by decide)
  have f42 : h' 42 = hx 42 := e2 42 (by decide)
  have f43 : h' 43 = hx 43 := e2 43 (by decide)
  have f44 : h' 44 = hx 44 := e2 44 (by decide)
  have f1 : h' 1 = hx 1 := e2 1 (by decide)
  have f3 : h' 3 = hx 3 := e2 3 (by decide)
  have f8 : h' 8 = hx 8 := e2 8 (by decide)
  have f70 : h' 70 = hx 70 := e2 70 (by decide)
  have f71 : h' 71 = hx 71 := e2 71 (by decide)
  have f100 : h' 100 = u2 hx 100 11 1 100 := e2 100 (by decide)
  refine ⟨nI n, h', u2 (shE hm 100) 300 56 1, ?_, ?_, ?_⟩
  · rw [f40, hn1]
  · show some (shE hm 100 300 4, _) = _
    rw [shE_n (by decide), hn2]
  refine ⟨?_, ?_, ?_, ?_, ?_, ?_⟩
  · exact BR_c (b := 40) f40 f42 f43 f44 H1
  · unfold IOff
    rw [f1]
    exact H2
  · unfold ITape
    rw [f8, f100]
    exact H3
  · unfold IPath
    rw [f3, f100]
    exact H4
  · refine Or.inr ⟨by rw [f100]; rfl, rfl, ?_⟩
    have g := shE_96 hm 100
    have H7 : BR (u2 hx 100 11 1) 40 (hm 200) (hm 201 0) (hm 201 1) (hm 300 3) (hm 300 4) := H1
    have H8 := BR_takes e3 H7
    obtain ⟨⟨U, L, K1, K2⟩, K3⟩ := H8
    show BR h' 60 (fun i => shE hm 100 255 (100 + i)) (shE hm 100 255 (100 + 96)) (shE hm 100 255 (100 + 97)) (shE hm 100 255 (100 + 98)) (shE hm 100 255 (100 + 99))
    rw [g.1, g.2.1, g.2.2.1, g.2.2.2]
    exact ⟨⟨U, L, K1, fun p hp => ⟨(shE_k (o := 100) (i := p) (by omega)).trans (K2 p hp).1, (shE_k (o := 100) (i := 48 + p) (by omega)).trans (K2 p hp).2⟩⟩, K3⟩
  · rw [f70, f71]
    exact H6
def tbE (h : Hp) (o : Nat) : Hp := u2 (u2 (u2 (u2 (sN h 200 (fun i => h 255 (o + i)) 96) 201 0 (h 255 (o + 96))) 201 1 (h 255 (o + 97))) 300 3 (h 255 (o + 98))) 300 4 (h 255 (o + 99))
theorem M_takesBack {h : Hp} {o : Nat} (ho : o ≤ 100) : mX5_takesBack h (nI o) = some (tbE h o) := by
  unfold mX5_takesBack
  refine fx_g2 (fun j => nI j) (fun j => sN h 200 (fun i => h 255 (o + i)) j) 96 rfl (sN_0 _ _ _) (by decide) (fun j hj k => ?_) (fun k => ?_)
  · simp only [nm_s]
    rw [if_neg (nl96 hj), nI_add, ck_s (by omega) (by decide), ck_s hj (by decide), nI_clamp (by omega), nI_clamp (by omega), nI_1, sN_n (by omega)]
    rw [show h 255 (o + j) = (fun i => h 255 (o + i)) j from rfl, sN_s]
  · rw [if_pos (show (96 : Int32) ≤ nI 96 by decide)]
    rw [show nI o + (96 : Int32) = nI (o + 96) from nI_add o 96, show nI o + (97 : Int32) = nI (o + 97) from nI_add o 97, show nI o + (98 : Int32) = nI (o + 98) from nI_add o 98, show nI o + (99 : Int32) = nI (o + 99) from nI_add o 99]
    simp only [nm_s]
    rw [ck_s (by omega) (by decide), ck_s (by omega) (by decide), ck_s (by omega) (by decide), ck_s (by omega) (by decide), nI_clamp (by omega), nI_clamp (by omega), nI_clamp (by omega), nI_clamp (by omega)]
    rfl
theorem BM_back {hx hm : Hp} {b o : Nat} (H : BR hx b (fun i => hm 255 (o + i)) (hm 255 (o + 96)) (hm 255 (o + 97)) (hm 255 (o + 98)) (hm 255 (o + 99))) : BM hx (tbE hm o) b := by
  obtain ⟨⟨U, L, H1, H2⟩, H3⟩ := H
  refine ⟨⟨U, L, H1, fun p hp => ?_⟩, H3⟩
  show sN hm 200 (fun i => hm 255 (o + i)) 96 200 p = _ ∧ sN hm 200 (fun i => hm 255 (o + i)) 96 200 (48 + p) = _
  rw [sN_k (by omega), sN_k (by omega)]
  exact H2 p hp
theorem st_undo (LW : LWt) : St_undo (II LW) := by
  intro tt hx hm H
  have H' := H
  obtain ⟨H1, H2, H3, H4, H5, H6⟩ := H
  unfold mX0_undo mX5_undo
  simp only [nm_s]
  rcases H5 with ⟨a, b⟩ | ⟨a, b, H5⟩
  · rw [if_pos a, if_pos b, b, bz_0, bz_0]
    exact ⟨_, _, _, rfl, rfl, H'⟩
  · obtain ⟨h', e1, e2, e3⟩ := X_takes (b := 40) (b2 := 60) (by omega) hx
    rw [a, b, i10, i10, e1, cl1_s, show (100 : Int32) = nI 100 from rfl, M_takesBack (by omega), cl1_s, bz_1]
    have b2 : tbE hm 100 300 56 = 1 := b
    rw [b2, bz_1]
    refine ⟨1, h', tbE hm 100, rfl, rfl, ?_⟩
    have f60 : h' 60 = hx 60 := e2 60 (by decide)
    have f62 : h' 62 = hx 62 := e2 62 (by decide)
    have f63 : h' 63 = hx 63 := e2 63 (by decide)
    have f64 : h' 64 = hx 64 := e2 64 (by decide)
    have f1 : h' 1 = hx 1 := e2 1 (by decide)
    have f3 : h' 3 = hx 3 := e2 3 (by decide)
    have f8 : h' 8 = hx 8 := e2 8 (by decide)
    have f70 : h' 70 = hx 70 := e2 70 (by decide)
    have f71 : h' 71 = hx 71 := e2 71 (by decide)
    have f100 : h' 100 = hx 100 := e2 100 (by decide)
    refine ⟨?_, ?_, ?_, ?_, ?_, ?_⟩
    · exact BM_back (BR_takes e3 H5)
    · unfold IOff
      rw [f1]
      exact H2
    · unfold ITape
      rw [f8, f100]
      exact H3
    · unfold IPath
      rw [f3, f100]
      exact H4
    · exact Or.inr ⟨by rw [f100]; exact a, b, BR_c (b := 60) f60 f62 f63 f64 H5⟩
    · rw [f70, f71]
      exact H6
/-- the first of n for which something is so -/
def fst (P : Nat → Bool) (n : Nat) : Nat → Option Nat
  | 0 => none
  | j + 1 => if P (n - 1 - j) then some (n - 1 - j) else fst P n j
theorem first_of (P : Nat → Bool) : ∀ n, (∃ m, m < n ∧ P m = true ∧ ∀ i, i < m → P i = false) ∨ ∀ i, i < n → P i = false
  | 0 => Or.inr (fun i hi => absurd hi (Nat.not_lt_zero _))
  | n + 1 => by
    rcases first_of P n with ⟨m, h1, h2⟩ | h
    · exact Or.inl ⟨m, by omega, h2⟩
    · cases hP : P n with
      | true => exact Or.inl ⟨n, by omega, hP, h⟩
      | false =>
        refine Or.inr (fun i hi => ?_)
        by_cases e : i = n
        · rw [e]; exact hP
        · exact h i (by omega)
theorem fst_m {P : Nat → Bool} {n m : Nat} (hm : m < n) (h1 : P m = true) (h2 : ∀ i, i < m → P i = false) : ∀ j, n - m ≤ j → j ≤ n → fst P n j = some m
  | 0, h, _ => by omega
  | j + 1, h, hj => by
    unfold fst
    by_cases e : n - 1 - j = m
    · rw [e, if_pos h1]
    · rw [if_neg (by rw [h2 _ (by omega)]; decide)]
      exact fst_m hm h1 h2 j (by omega) (by omega)
theorem fst_0 {P : Nat → Bool} {n : Nat} (h : ∀ i, i < n → P i = false) : ∀ j, j ≤ n → fst P n j = none
  | 0, _ => rfl
  | j + 1, hj => by
    unfold fst
    rw [if_neg (by rw [h _ (by omega)]; decide)]
    exact fst_0 h j (by omega)
