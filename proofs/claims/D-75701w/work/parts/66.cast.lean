/-! of a cast: castIs, rolls -/
set_option maxRecDepth 100000
/-- a proposition as a boolean -/
noncomputable def bo (A : Prop) : Bool := @decide A (Classical.propDecidable A)
theorem bo_t {A : Prop} (h : A) : bo A = true := @decide_eq_true A (Classical.propDecidable A) h
theorem bo_f {A : Prop} (h : ¬ A) : bo A = false := @decide_eq_false A (Classical.propDecidable A) h
theorem bo_i {A : Prop} : bo A = true ↔ A := by
  constructor
  · intro h
    exact @of_decide_eq_true A (Classical.propDecidable A) h
  · exact bo_t
theorem bo_c {A B : Prop} (h : A ↔ B) : bo A = bo B := by
  by_cases a : A
  · rw [bo_t a, bo_t (h.mp a)]
  · rw [bo_f a, bo_f (fun b => a (h.mpr b))]
/-- the place beside one, by the class's four ways -/
def nb (p w : Nat) : Option Nat := if w = 0 then (if p % 8 = 0 then none else some (p - 1)) else if w = 1 then (if p % 8 = 7 then none else some (p + 1)) else if w = 2 then (if p / 8 = 0 then none else some (p - 8)) else (if p / 8 = 5 then none else some (p + 8))
def swy (w : Nat) : Nat := if w = 0 then 1 else if w = 1 then 0 else if w = 2 then 3 else 2
theorem nb_t : ∀ p : Fin 48, ∀ w : Fin 4, mX0_beside (nI p.val) (nI w.val) = some (on1 (nb p.val w.val)) ∧ mX5_beside (nI p.val) (nI w.val) = some (on1 (nb p.val (swy w.val))) ∧ ((nb p.val w.val).getD 0 < 48) := by decide +kernel
theorem X_beside {p w : Nat} (hp : p < 48) (hw : w < 4) : mX0_beside (nI p) (nI w) = some (on1 (nb p w)) := (nb_t ⟨p, hp⟩ ⟨w, hw⟩).1
theorem M_beside {p w : Nat} (hp : p < 48) (hw : w < 4) : mX5_beside (nI p) (nI w) = some (on1 (nb p (swy w))) := (nb_t ⟨p, hp⟩ ⟨w, hw⟩).2.1
theorem nb_lt {p w q : Nat} (hp : p < 48) (hw : w < 4) (h : nb p w = some q) : q < 48 := by
  have : (nb p w).getD 0 < 48 := (nb_t ⟨p, hp⟩ ⟨w, hw⟩).2.2
  rw [h] at this
  exact this
theorem swy_lt {w : Nat} (hw : w < 4) : swy w < 4 := by
  unfold swy
  repeat' split
  all_goals omega
theorem swy_2 {w : Nat} (hw : w < 4) : swy (swy w) = w := by
  have : w = 0 ∨ w = 1 ∨ w = 2 ∨ w = 3 := by omega
  rcases this with e | e | e | e <;> subst e <;> rfl
def hts (U L : Nat → Nat) (c : Nat) : Nat → Nat := if c = 0 then L else U
theorem hts_b {U L : Nat → Nat} (hU : ∀ p, p < 48 → U p ≤ 25 ∧ L p ≤ 25) (c : Nat) : ∀ p, p < 48 → hts U L c p ≤ 25 := fun p hp => by
  have := hU p hp
  unfold hts
  split <;> omega
theorem X_hts {h : Hp} {U L : Nat → Nat} (H : HX 40 h U L) {c p : Nat} (hc : c < 2) (hp : p < 48) : h (42 + c) p = nI (hts U L c p) := by
  have := X_heightAt H hc hp
  unfold hts
  rw [show 40 + 2 + c = 42 + c from rfl] at this
  rw [this]
  split <;> rfl
theorem M_hts {h : Hp} {U L : Nat → Nat} (H : HM h U L) {c p : Nat} (hc : c < 2) (hp : p < 48) : mX5_highOf h (nI c) (nI p) = some (nI (hts U L c p)) := by
  unfold mX5_highOf
  simp only [nm_q]
  rw [mul48, ck_s (by omega) (by decide), nI_clamp (by omega), M_heightAt H hc hp]
  unfold hts
  split <;> rfl
def abP (f : Nat → Nat) (s : Nat) (p q : Nat) : Prop := if s = 0 then f p < f q else f q < f p
def abvP (f : Nat → Nat) (s p : Nat) : Prop := ∀ w q, w < 4 → nb p w = some q → abP f s p q
theorem X_isAbove {h : Hp} {U L : Nat → Nat} (H : HX 40 h U L) {c p s : Nat} (hc : c < 2) (hp : p < 48) (hs : s < 2) : R (mX0_isAbove h (nI c) (nI p) (nI s)) (fun r => r = bI (bo (abvP (hts U L c) s p))) := by
  have hb := hts_b (HU_of H) c
  have hh := fun q (hq : q < 48) => X_hts H hc hq
  generalize hts U L c = f at hb hh
  unfold mX0_isAbove
  simp only [nm_q]
  refine fx_R1 4 (fun j x => x = nI j ∧ ∀ w q, w < j → nb p w = some q → abP f s p q) (by decide) ⟨rfl, fun w q hw => by omega⟩ ?_
  rintro j x k hj ⟨rfl, hI⟩ hk
  by_cases hj4 : j = 4
  · subst hj4
    rw [if_pos (show (4 : Int32) ≤ nI 4 by decide), bz_1, bo_t (show abvP f s p from hI)]
    exact R_some rfl
  · have hj' : j < 4 := by omega
    rw [if_neg (nl4 hj'), X_beside hp hj', cl1_s, nI_1]
    cases hn : nb p j with
    | none =>
      rw [show on1 none = -1 from rfl, if_pos rfl, if_pos rfl]
      refine hk (j + 1) _ (by omega) (by omega) ⟨rfl, fun w q hw hq => ?_⟩
      by_cases e : w = j
      · rw [e, hn] at hq
        cases hq
      · exact hI w q (by omega) hq
    | some q =>
      have hq := nb_lt hp hj' hn
      have b1 := hb p hp
      have b2 := hb q hq
      rw [show on1 (some q) = nI q from rfl, if_neg (ne_m1 (by omega)), if_neg (ne_m1 (by omega)), ck_s hc (by decide), ck_s hp (by decide), ck_s hc (by decide), ck_s hq (by decide), nI_clamp (by omega), nI_clamp (by omega), nI_clamp (by omega), hh p hp, hh q hq, nI_sub]
      have go : abP f s p q → R (k (nI (j + 1))) (fun r => r = bI (bo (abvP f s p))) := fun ha => by
        refine hk (j + 1) _ (by omega) (by omega) ⟨rfl, fun w q' hw hq' => ?_⟩
        by_cases e : w = j
        · rw [e, hn] at hq'
          cases hq'
          exact ha
        · exact hI w q' (by omega) hq'
      have no : ¬ abP f s p q → R (bz 0 (some 0)) (fun r => r = bI (bo (abvP f s p))) := fun ha => by
        rw [bz_0, bo_f (fun h9 => ha (h9 j q hj' hn))]
        exact R_some rfl
      unfold abP at go no
      have z0 : (0 : Int32) = iI 0 := rfl
      rcases nI2 hs with e | e
      · subst e
        rw [if_pos (show nI 0 = (0 : Int32) from rfl)]
        rw [if_pos rfl] at go no
        by_cases g : f p < f q
        · rw [if_pos (show iI ((f p : Int) - f q) < 0 from (iI_lt (b := 0) (by omega) (by omega)).mpr (by omega))]
          exact go g
        · rw [if_neg (show ¬ iI ((f p : Int) - f q) < 0 from fun e => by have := (iI_lt (b := 0) (by omega) (by omega)).mp e; omega)]
          exact no g
      · subst e
        rw [if_neg (show ¬ nI 1 = (0 : Int32) by decide)]
        rw [if_neg (by decide)] at go no
        by_cases g : f q < f p
        · rw [if_pos (show 0 < iI ((f p : Int) - f q) from (iI_lt (a := 0) (by omega) (by omega)).mpr (by omega))]
          exact go g
        · rw [if_neg (show ¬ 0 < iI ((f p : Int) - f q) from fun e => by have := (iI_lt (a := 0) (by omega) (by omega)).mp e; omega)]
          exact no g
theorem M_isAbove {h : Hp} {U L : Nat → Nat} (H : HM h U L) {c p s : Nat} (hc : c < 2) (hp : p < 48) (hs : s < 2) : R (mX5_isAbove h (nI c) (nI p) (if s = 0 then -1 else 1)) (fun r => r = bI (bo (abvP (hts U L c) s p))) := by
  have hb := hts_b (HV_of H) c
  have hh := fun q (hq : q < 48) => M_hts H hc hq
  generalize hts U L c = f at hb hh
  unfold mX5_isAbove
  simp only [nm_q]
  refine fx_R1 4 (fun j x => x = nI j ∧ ∀ w q, w < j → nb p (swy w) = some q → abP f s p q) (by decide) ⟨rfl, fun w q hw => by omega⟩ ?_
  rintro j x k hj ⟨rfl, hI⟩ hk
  by_cases hj4 : j = 4
  · subst hj4
    rw [if_pos (show (4 : Int32) ≤ nI 4 by decide), bz_1, bo_t (show abvP f s p from fun w q hw hq => hI (swy w) q (swy_lt hw) (by rw [swy_2 hw]; exact hq))]
    exact R_some rfl
  · have hj' : j < 4 := by omega
    rw [if_neg (nl4 hj'), M_beside hp hj', cl1_s, nI_1]
    cases hn : nb p (swy j) with
    | none =>
      rw [show on1 none = -1 from rfl, if_pos rfl]
      refine hk (j + 1) _ (by omega) (by omega) ⟨rfl, fun w q hw hq => ?_⟩
      by_cases e : w = j
      · rw [e, hn] at hq
        cases hq
      · exact hI w q (by omega) hq
    | some q =>
      have hq := nb_lt hp (swy_lt hj') hn
      have b1 := hb p hp
      have b2 := hb q hq
      rw [show on1 (some q) = nI q from rfl, if_neg (ne_m1 (by omega)), hh p hp, cl1_s, hh q hq, cl1_s, nI_sub]
      have go : abP f s p q → R (k (nI (j + 1))) (fun r => r = bI (bo (abvP f s p))) := fun ha => by
        refine hk (j + 1) _ (by omega) (by omega) ⟨rfl, fun w q' hw hq' => ?_⟩
        by_cases e : w = j
        · rw [e, hn] at hq'
          cases hq'
          exact ha
        · exact hI w q' (by omega) hq'
      have no : ¬ abP f s p q → R (bz 0 (some 0)) (fun r => r = bI (bo (abvP f s p))) := fun ha => by
        rw [bz_0, bo_f (fun h9 => ha (h9 (swy j) q (swy_lt hj') hn))]
        exact R_some rfl
      unfold abP at go no
      rcases nI2 hs with e | e
      · subst e
        rw [if_pos rfl]
        rw [if_pos rfl] at go no
        rw [show (-1 : Int32) = iI (-1) from rfl, iI_mul]
        by_cases g : f p < f q
        · rw [if_pos (show 0 < iI (-1 * ((f p : Int) - f q)) from (iI_lt (a := 0) (by omega) (by omega)).mpr (by omega))]
          exact go g
        · rw [if_neg (show ¬ 0 < iI (-1 * ((f p : Int) - f q)) from fun e => by have := (iI_lt (a := 0) (by omega) (by omega)).mp e; omega)]
          exact no g
      · subst e
        rw [if_neg (show ¬ 1 = 0 by decide)]
        rw [if_neg (by decide)] at go no
        rw [show (1 : Int32) = iI 1 from rfl, iI_mul]
        by_cases g : f q < f p
        · rw [if_pos (show 0 < iI (1 * ((f p : Int) - f q)) from (iI_lt (a := 0) (by omega) (by omega)).mpr (by omega))]
          exact go g
        · rw [if_neg (show ¬ 0 < iI (1 * ((f p : Int) - f q)) from fun e => by have := (iI_lt (a := 0) (by omega) (by omega)).mp e; omega)]
          exact no g
theorem X_extremes {h : Hp} {U L : Nat → Nat} (H : HX 40 h U L) {c s : Nat} (hc : c < 2) (hs : s < 2) : mX0_extremes h (nI c) (nI s) = some (nI (cnt (fun p => bo (abvP (hts U L c) s p)) 48)) := by
  unfold mX0_extremes
  simp only [nm_q]
  refine fx_g2 (fun j => nI (cnt (fun p => bo (abvP (hts U L c) s p)) j)) (fun j => nI j) 48 rfl rfl (by decide) (fun j hj k => ?_) (fun k => ?_)
  · obtain ⟨r, e, hr⟩ := X_isAbove H hc hj hs
    rw [if_neg (nl48 hj), e, cl1_s, hr, nI_1]
    cases hb : bo (abvP (hts U L c) s j) with
    | true => rw [bI_t, i10, nI_1, cnt_st hb]
    | false => rw [bI_f, i00, Int32.add_zero, cnt_sf hb]
  · rw [if_pos (show (48 : Int32) ≤ nI 48 by decide)]
theorem M_peaks {h : Hp} {U L : Nat → Nat} (H : HM h U L) {c s : Nat} (hc : c < 2) (hs : s < 2) : mX5_peaks h (nI c) (if s = 0 then -1 else 1) = some (nI (cnt (fun p => bo (abvP (hts U L c) s p)) 48)) := by
  unfold mX5_peaks
  simp only [nm_q]
  refine fx_g2 (fun j => nI (cnt (fun p => bo (abvP (hts U L c) s p)) j)) (fun j => nI j) 48 rfl rfl (by decide) (fun j hj k => ?_) (fun k => ?_)
  · obtain ⟨r, e, hr⟩ := M_isAbove H hc hj hs
    rw [if_neg (nl48 hj), e, cl1_s, hr, nI_1]
    cases hb : bo (abvP (hts U L c) s j) with
    | true => rw [bI_t, i10, nI_1, cnt_st hb]
    | false => rw [bI_f, i00, cnt_sf hb]
  · rw [if_pos (show (48 : Int32) ≤ nI 48 by decide)]
theorem amx_s (f : Nat → Nat) (n : Nat) : amx f (n + 1) = if f (n + 1) ≤ f (amx f n) then amx f n else n + 1 := rfl
theorem X_highP {h : Hp} {U L : Nat → Nat} (H : HX 40 h U L) {c : Nat} (hc : c < 2) : mX0_highestPlace h (nI c) = some (nI (amx (hts U L c) 47)) := by
  have hb := hts_b (HU_of H) c
  have hh := fun q (hq : q < 48) => X_hts H hc hq
  generalize hts U L c = f at hb hh
  unfold mX0_highestPlace
  simp only [nm_q]
  refine fx_g2 (fun j => nI (amx f j)) (fun j => nI (j + 1)) 47 rfl rfl (by decide) (fun j hj k => ?_) (fun k => ?_)
  · have ha := amx_le f j
    have b1 := hb (j + 1) (by omega)
    have b2 := hb (amx f j) (by omega)
    rw [if_neg (nl48 (by omega)), ck_s hc (by decide), ck_s (show j + 1 < 48 by omega) (by decide), ck_s hc (by decide), ck_s (show amx f j < 48 by omega) (by decide), nI_clamp (by omega), nI_clamp (by omega), nI_clamp (by omega), hh _ (by omega), hh _ (by omega), nI_1, amx_s]
    by_cases g : f (j + 1) ≤ f (amx f j)
    · rw [if_pos (nI_le g (by omega)), if_pos g]
    · rw [if_neg (nI_leN (by omega) (by omega) g), if_neg g]
  · rw [if_pos (show (48 : Int32) ≤ nI (47 + 1) by decide)]
noncomputable def csP (f : Nat → Nat) (wn : Int32) (x : Int32) : Int32 := if x = 0 then nI (cnt (fun p => bo (abvP f 1 p)) 48) else if x = 1 then nI (cnt (fun p => bo (abvP f 0 p)) 48) else if x = 2 then nI (ovr f 0 48) else if x = 3 then nI (amx f 47) else if x = 4 then wn else -1
theorem M_castIs {h : Hp} {U L : Nat → Nat} (H : HM h U L) {c : Nat} (hc : c < 2) (x : Int32) : mX5_castIs h (nI c) x = some (csP (hts U L c) (h 201 c) x) := by
  have hb := hts_b (HV_of H) c
  have hh := fun q (hq : q < 48) => M_hts H hc hq
  have p1 := M_peaks H hc (s := 1) (by decide)
  have p0 := M_peaks H hc (s := 0) (by decide)
  rw [if_neg (show ¬ 1 = 0 by decide)] at p1
  rw [if_pos rfl] at p0
  unfold mX5_castIs
  rw [M_isCast, nR_s hc (by omega), cl1_s, bI_t, i10]
  simp only [nm_q]
  rw [p1, p0]
  generalize hts U L c = f at hb hh
  simp only [cl1_q]
  refine fx_g3 (fun j => nI (ovr f 0 j)) (fun j => nI (amx f (j - 1))) (fun j => nI j) 48 rfl rfl rfl (by decide) (fun j hj k => ?_) (fun k => ?_)
  · have ha := amx_le f (j - 1)
    have b1 := hb j hj
    have b2 := hb (amx f (j - 1)) (by omega)
    rw [if_neg (nl48 hj), hh j hj, cl1_s, cl1_s, hh _ (show amx f (j - 1) < 48 by omega), cl1_s, nI_add, nI_1, ovr_s, show j + 1 - 1 = j from rfl, Nat.sub_zero]
    have ea : amx f j = if f j ≤ f (amx f (j - 1)) then amx f (j - 1) else j := by
      cases j with
      | zero => rw [show amx f (0 - 1) = 0 from rfl, if_pos (Nat.le_refl _)]
      | succ j => exact amx_s f j
    rw [ea]
    by_cases g : f j ≤ f (amx f (j - 1))
    · rw [if_pos (nI_le g (by omega)), if_pos g]
    · rw [if_neg (nI_leN (by omega) (by omega) g), if_neg g]
  · rw [if_pos (show (48 : Int32) ≤ nI 48 by decide), ck_s hc (by decide), nI_clamp (by omega), show 48 - 1 = 47 from rfl]
    unfold csP
    repeat' split
    all_goals rfl
theorem X_castIs {h : Hp} {U L : Nat → Nat} (H : HX 40 h U L) {c : Nat} (hc : c < 2) (x : Int32) : mX0_castIs h (nI c) x = some (csP (hts U L c) (h 44 c) x) := by
  have p1 : mX0_extremes h (nI c) 1 = _ := X_extremes H hc (s := 1) (by decide)
  have p0 : mX0_extremes h (nI c) 0 = _ := X_extremes H hc (s := 0) (by decide)
  have p2 : mX0_overOf h (nI c) 0 = _ := X_over H hc (k := 0) (by decide)
  unfold mX0_castIs
  rw [X_isCast, nR_s hc (by omega), cl1_s, bI_t, i10, p1, p0, p2, X_highP H hc, ck_s hc (by decide), nI_clamp (by omega)]
  simp only [cl1_q]
  unfold csP hts
  repeat' split
  all_goals rfl
theorem st_castIs (LW : LWt) : St_castIs (II LW) := by
  intro tt hx hm a0 a1 H
  obtain ⟨U, L, HU, HL⟩ := BM_HX H.1
  cases h1 : nR a0 2 with
  | false =>
    unfold mX0_castIs mX5_castIs
    rw [X_isCast, M_isCast, h1]
    exact ⟨-1, rfl, rfl, H⟩
  | true =>
    obtain ⟨c, hc, _, e⟩ := nR_of h1
    subst e
    rw [X_castIs HU hc, M_castIs HL hc]
    refine ⟨_, ?_, rfl, H⟩
    have hw : hx 44 c = hm 201 c := by
      rcases nI2 hc with e | e
      · subst e
        exact H.1.2.1
      · subst e
        exact H.1.2.2.1
    rw [hw]
/-! rolls -/
def adj (p q : Nat) : Bool := decide (nb p 0 = some q ∨ nb p 1 = some q ∨ nb p 2 = some q ∨ nb p 3 = some q)
theorem far_t : ∀ q p : Fin 48, mX0_farOff (nI q.val) (nI p.val) = some ((mX0_farOff (nI q.val) (nI p.val)).getD 0) ∧ ((mX0_farOff (nI q.val) (nI p.val)).getD 0 = 1 ↔ adj p.val q.val = true) := by decide +kernel
def lwb (f : Nat → Nat) (p : Nat) : Nat → Nat
  | 0 => p
  | n + 1 => if adj p n = true ∧ f n < f (lwb f p n) then n else lwb f p n
theorem lwb_s (f : Nat → Nat) (p n : Nat) : lwb f p (n + 1) = if adj p n = true ∧ f n < f (lwb f p n) then n else lwb f p n := rfl
theorem lwb_lt {f : Nat → Nat} {p : Nat} (hp : p < 48) : ∀ n, n ≤ 48 → lwb f p n < 48
  | 0, _ => hp
  | n + 1, hn => by
    have := lwb_lt (f := f) hp n (by omega)
    rw [lwb_s]
    split <;> omega
theorem lwb_f {f : Nat → Nat} {p : Nat} : ∀ n, f (lwb f p n) ≤ f p ∧ (lwb f p n = p ∨ f (lwb f p n) < f p)
  | 0 => ⟨Nat.le_refl _, Or.inl rfl⟩
  | n + 1 => by
    have := lwb_f (f := f) (p := p) n
    rw [lwb_s]
    split
    · rename_i h
      exact ⟨by omega, Or.inr (by omega)⟩
    · exact this
theorem X_lowest {h : Hp} {U L : Nat → Nat} (H : HX 40 h U L) {c p : Nat} (hc : c < 2) (hp : p < 48) : mX0_lowestBeside h (nI c) (nI p) = some (nI (lwb (hts U L c) p 48)) := by
  have hb := hts_b (HU_of H) c
  have hh := fun q (hq : q < 48) => X_hts H hc hq
  generalize hts U L c = f at hb hh
  unfold mX0_lowestBeside
  simp only [nm_q]
  refine fx_g2 (fun j => nI (lwb f p j)) (fun j => nI j) 48 rfl rfl (by decide) (fun j hj k => ?_) (fun k => ?_)
  · have hl := lwb_lt (f := f) hp j (by omega)
    have b1 := hb j hj
    have b2 := hb _ hl
    have ft := far_t ⟨j, hj⟩ ⟨p, hp⟩
    have ft1 : mX0_farOff (nI j) (nI p) = some ((mX0_farOff (nI j) (nI p)).getD 0) := ft.1
    have ft2 : (mX0_farOff (nI j) (nI p)).getD 0 = 1 ↔ adj p j = true := ft.2
    generalize (mX0_farOff (nI j) (nI p)).getD 0 = v at ft1 ft2
    rw [if_neg (nl48 hj), ft1, cl1_s, ck_s hc (by decide), ck_s hj (by decide), ck_s hc (by decide), ck_s hl (by decide), nI_clamp (by omega), nI_clamp (by omega), nI_clamp (by omega), hh _ hl, hh j hj, nI_1, lwb_s]
    by_cases ga : adj p j = true
    · rw [if_pos (ft2.mpr ga)]
      by_cases g : f (lwb f p j) ≤ f j
      · rw [if_pos (nI_le g (by omega)), if_neg (fun e => by omega)]
      · rw [if_neg (nI_leN (by omega) (by omega) g), if_pos ⟨ga, by omega⟩]
    · rw [if_neg (fun e => ga (ft2.mp e)), if_neg (fun e => ga e.1)]
  · rw [if_pos (show (48 : Int32) ≤ nI 48 by decide)]
theorem on1_e {o : Option Nat} {j : Nat} (ho : ∀ q, o = some q → q < 48) (hj : j < 48) : on1 o = nI j ↔ o = some j := by
  cases o with
  | none =>
    constructor
    · intro e
      exact absurd e.symm (ne_m1 (by omega))
    · intro e
      cases e
  | some q =>
    have := ho q rfl
    rw [show on1 (some q) = nI q from rfl, nI_eq (by omega) (by omega)]
    constructor
    · intro e
      rw [e]
    · intro e
      cases e
      rfl
theorem M_lowest {h : Hp} {U L : Nat → Nat} (H : HM h U L) {c p : Nat} (hc : c < 2) (hp : p < 48) : mX5_lowestBy h (nI c) (nI p) = some (nI (lwb (hts U L c) p 48)) := by
  have hb := hts_b (HV_of H) c
  have hh := fun q (hq : q < 48) => M_hts H hc hq
  generalize hts U L c = f at hb hh
  have n0 : mX5_beside (nI p) 0 = some (on1 (nb p 1)) := M_beside hp (w := 0) (by decide)
  have n1 : mX5_beside (nI p) 1 = some (on1 (nb p 0)) := M_beside hp (w := 1) (by decide)
  have n2 : mX5_beside (nI p) 2 = some (on1 (nb p 3)) := M_beside hp (w := 2) (by decide)
  have n3 : mX5_beside (nI p) 3 = some (on1 (nb p 2)) := M_beside hp (w := 3) (by decide)
  unfold mX5_lowestBy
  simp only [nm_q]
  rw [n0, n1, n2, n3]
  simp only [cl1_q]
  refine fx_g2 (fun j => nI (lwb f p j)) (fun j => nI j) 48 rfl rfl (by decide) (fun j hj k => ?_) (fun k => ?_)
  · have hl := lwb_lt (f := f) hp j (by omega)
    have b1 := hb j hj
    have b2 := hb _ hl
    have o0 := on1_e (o := nb p 0) (fun q => nb_lt hp (by decide)) hj
    have o1 := on1_e (o := nb p 1) (fun q => nb_lt hp (by decide)) hj
    have o2 := on1_e (o := nb p 2) (fun q => nb_lt hp (by decide)) hj
    have o3 := on1_e (o := nb p 3) (fun q => nb_lt hp (by decide)) hj
    rw [if_neg (nl48 hj), i10, if_pos trivial, hh j hj, cl1_s, hh _ hl, cl1_s, nI_1, lwb_s]
    have fin : adj p j = true → (if nI (f (lwb f p j)) ≤ nI (f j) then k (nI (lwb f p j)) (nI (j + 1)) else k (nI j) (nI (j + 1))) = k (nI (if adj p j = true ∧ f j < f (lwb f p j) then j else lwb f p j)) (nI (j + 1)) := fun ga => by
      by_cases g : f (lwb f p j) ≤ f j
      · rw [if_pos (nI_le g (by omega)), if_neg (fun e => by omega)]
      · rw [if_neg (nI_leN (by omega) (by omega) g), if_pos ⟨ga, by omega⟩]
    by_cases g1 : nb p 1 = some j
    · rw [if_pos (o1.mpr g1)]
      exact fin (decide_eq_true (Or.inr (Or.inl g1)))
    · rw [if_neg (fun e => g1 (o1.mp e))]
      by_cases g0 : nb p 0 = some j
      · rw [if_pos (o0.mpr g0)]
        exact fin (decide_eq_true (Or.inl g0))
      · rw [if_neg (fun e => g0 (o0.mp e))]
        by_cases g3 : nb p 3 = some j
        · rw [if_pos (o3.mpr g3)]
          exact fin (decide_eq_true (Or.inr (Or.inr (Or.inr g3))))
        · rw [if_neg (fun e => g3 (o3.mp e))]
          by_cases g2 : nb p 2 = some j
          · rw [if_pos (o2.mpr g2)]
            exact fin (decide_eq_true (Or.inr (Or.inr (Or.inl g2))))
          · rw [if_neg (fun e => g2 (o2.mp e)), if_neg]
            rintro ⟨e, _⟩
            have e := of_decide_eq_true e
            rcases e with e | e | e | e
            · exact g0 e
            · exact g1 e
            · exact g2 e
            · exact g3 e
  · rw [if_pos (show (48 : Int32) ≤ nI 48 by decide)]
def itr (F : Nat → Nat) (a : Nat) : Nat → Nat
  | 0 => a
  | n + 1 => F (itr F a n)
theorem itr_fix {F : Nat → Nat} {a m : Nat} (h : F (itr F a m) = itr F a m) : ∀ d, itr F a (m + d) = itr F a m
  | 0 => rfl
  | d + 1 => by
    show F (itr F a (m + d)) = _
    rw [itr_fix h d, h]
def fxP (F : Nat → Nat) (a : Nat) (r : Int32) : Prop := ∃ m, r = nI (itr F a m) ∧ F (itr F a m) = itr F a m
theorem fxP_u {F : Nat → Nat} {a : Nat} {r r' : Int32} (h1 : fxP F a r) (h2 : fxP F a r') : r = r' := by
  obtain ⟨m, e, f⟩ := h1
  obtain ⟨m', e', f'⟩ := h2
  rw [e, e']
  by_cases c : m ≤ m'
  · have := itr_fix f (m' - m)
    rw [show m + (m' - m) = m' by omega] at this
    rw [this]
  · have := itr_fix f' (m - m')
    rw [show m' + (m - m') = m by omega] at this
    rw [this]
/-- the loop of rolls, of either side -/
theorem rolls_R {f : Nat → Nat} {p : Nat} (hp : p < 48) (hb : ∀ q, q < 48 → f q ≤ 25) {G : Int32 → Option Int32} (hG : ∀ q, q < 48 → G (nI q) = some (nI (lwb f q 48))) : R (fx FU (fun _ => none) (fun k18 (x3_5 : Int32) => cl1 (G x3_5) (fun r7 => if r7 = x3_5 then some x3_5 else cl1 (G x3_5) (fun r9 => k18 r9))) (nI p)) (fun r => fxP (fun q => lwb f q 48) p r) := by
  refine fx_R1 25 (fun j x => x = nI (itr (fun q => lwb f q 48) p j) ∧ itr (fun q => lwb f q 48) p j < 48 ∧ j + f (itr (fun q => lwb f q 48) p j) ≤ 25) (by decide) ⟨rfl, hp, by have := hb p hp; show 0 + f p ≤ 25; omega⟩ ?_
  rintro j x k hj ⟨rfl, h1, h2⟩ hk
  have hs : itr (fun q => lwb f q 48) p (j + 1) = lwb f (itr (fun q => lwb f q 48) p j) 48 := rfl
  have hl := lwb_lt (f := f) h1 48 (by omega)
  have hf := lwb_f (f := f) (p := itr (fun q => lwb f q 48) p j) 48
  rw [hG _ h1, cl1_s]
  by_cases g : lwb f (itr (fun q => lwb f q 48) p j) 48 = itr (fun q => lwb f q 48) p j
  · rw [if_pos (by rw [g])]
    exact R_some ⟨j, rfl, g⟩
  · rw [if_neg (fun e => g ((nI_eq (by omega) (by omega)).mp e)), cl1_s]
    have hlt : f (lwb f (itr (fun q => lwb f q 48) p j) 48) < f (itr (fun q => lwb f q 48) p j) := by
      rcases hf.2 with e | e
      · exact absurd e g
      · exact e
    refine hk (j + 1) _ (by omega) (by omega) ⟨by rw [hs], by rw [hs]; exact hl, by rw [hs]; omega⟩
theorem st_rolls (LW : LWt) : St_rolls (II LW) := by
  intro tt hx hm a0 a1 H
  obtain ⟨U, L, HU, HL⟩ := BM_HX H.1
  unfold mX0_rolls mX5_rolls
  rw [X_isCast, M_isCast, X_isPlace, M_isPlace]
  simp only [nm_q, cl1_q]
  cases h1 : nR a0 2 with
  | false => exact ⟨-1, rfl, rfl, H⟩
  | true =>
    cases h2 : nR a1 48 with
    | false => exact ⟨-1, rfl, rfl, H⟩
    | true =>
      obtain ⟨c, hc, _, e⟩ := nR_of h1
      obtain ⟨p, hp, _, e2⟩ := nR_of h2
      subst e e2
      simp only [bI_t, i10_q]
      exact st_00 (fun r => fxP (fun q => lwb (hts U L c) q 48) p r) (fun r => fxP (fun q => lwb (hts U L c) q 48) p r) H (rolls_R hp (hts_b (HU_of HU) c) (G := mX0_lowestBeside hx (nI c)) (fun q hq => X_lowest HU hc hq)) (rolls_R hp (hts_b (HU_of HU) c) (G := mX5_lowestBy hm (nI c)) (fun q hq => M_lowest HL hc hq)) (fun a b => fxP_u)
