/-! a place is rubbed; a night -/
set_option maxRecDepth 100000
theorem dU_z (U : Nat → Nat) (c p : Nat) : dU U c p 0 = U := by
  funext q
  unfold dU
  split <;> rfl
theorem dL_z (L : Nat → Nat) (c p : Nat) : dL L c p 0 = L := by
  funext q
  unfold dL
  split <;> rfl
def wrD (off : Int32) (v f : Nat) : Nat := if off = 0 then min v f else 0
theorem wrD_le (off : Int32) (v f : Nat) : wrD off v f ≤ f := by
  unfold wrD
  split <;> omega
theorem X_wr {b : Nat} {g : Hp} {U L : Nat → Nat} (H : HX b g U L) {c p v : Nat} (hc : c < 2) (hp : p < 48) (hv : v ≤ 25) : ∃ g', mX3_wears b g (nI c) (nI p) (nI v) = some g' ∧ HX b g' (dU U c p (wrD (g 1 p) v (hts U L c p))) (dL L c p (wrD (g 1 p) v (hts U L c p))) ∧ g' (b + 4) c = g (b + 4) c + nI (wrD (g 1 p) v (hts U L c p)) ∧ g' (b + 4) (1 - c) = g (b + 4) (1 - c) ∧ g' b 4 = g b 4 + nI (wrD (g 1 p) v (hts U L c p)) ∧ (∀ i, i ≠ 4 → g' b i = g b i) ∧ Ex [b, b + 2, b + 3, b + 4] g g' := by
  unfold wrD
  by_cases ho : g 1 p = 0
  · rw [if_pos ho]
    exact X_wears H hc hp hv ho
  · rw [if_neg ho, dU_z, dL_z, nI_0, Int32.add_zero, Int32.add_zero]
    exact ⟨g, X_wears0 hp ho, H, rfl, rfl, rfl, fun _ _ => rfl, Ex_r _ _⟩
theorem M_lot (h : Hp) : mX5_lotGoes h = some (lotN (h 300 3), u2 h 300 3 (lotN (h 300 3))) := by
  unfold mX5_lotGoes
  rw [nm_s, u2_e, upd_e]
  rfl
def NC (b : Nat) (tt : TTy) (hx0 hm0 : Hp) : Prop := (b = 40 ∨ b = 50) ∧ IOff hx0 hm0 ∧ IPath hx0 hm0 ∧ LWd tt (hx0 70 3) (hx0 71) (hm0 300 15) (hm0 222) (hm0 223) (hm0 224) (hm0 225) (hm0 226)
def NS (b : Nat) (hx0 hm0 hx hm : Hp) : Prop := BM hx hm b ∧ Ex [2, 30, 31, b, b + 2, b + 3, b + 4] hx0 hx ∧ Ex [200, 201, 227, 228, 242, 300] hm0 hm ∧ ∀ i, i ≠ 3 → i ≠ 4 → i ≠ 52 → i ≠ 53 → hm 300 i = hm0 300 i
theorem M_min25 {a b : Nat} (ha : a ≤ 25) (hb : b ≤ 25) : mX5_min (nI a) (nI b) = some (nI (min b a)) := by
  rw [M_min (by omega) (by omega), Nat.min_comm]
theorem rub {b : Nat} {tt : TTy} {hx0 hm0 hx hm : Hp} (C : NC b tt hx0 hm0) (S : NS b hx0 hm0 hx hm) {p g q : Nat} (hp : p < 48) (hg : g < 63) (hf : fcg p g = some q) (e52 : hm 300 52 = sA g) (e53 : hm 300 53 = sB g) (c k : Int32) : ∃ hx' hm' s, mX3_isRubbed b tt hx (nI p) (nI g) c k = some hx' ∧ mX5_wearsAt hm (nI p) k c = some (s, hm') ∧ NS b hx0 hm0 hx' hm' ∧ hx' b 4 = hx b 4 + s ∧ hx' 2 = hx 2 ∧ hm' 242 = hm 242 ∧ hm' 300 52 = sA g ∧ hm' 300 53 = sB g ∧ hx' b 2 = hx b 2 := by
  obtain ⟨hb, hOff, _, _, hLW⟩ := C
  obtain ⟨⟨⟨U, L, HU, H2⟩, w0, w1, ⟨x, hx9, ex, em⟩, ⟨n, hn9, en, emn⟩⟩, EX, EM, FM⟩ := S
  have HL : HM hm U L := fun p hp => ⟨(HU p hp).1, (HU p hp).2.1, (H2 p hp).2, (H2 p hp).1⟩
  have hU := HU_of HU
  have hq := fcg_lt hf
  obtain ⟨y, hy9, ey⟩ := lotN_n hx9
  obtain ⟨h4, h7, h9, m1, m2, m3, m4, mE, mx, mo, mv⟩ := X_mom hb (h := hx) hg (nI (U p)) (nI (L q)) (nI p) c k
  obtain ⟨sx, tv, ty, LX, LM⟩ := hLW (mvl (nI (U p)) (nI (L q)) (nI p) (nI g) c k (hx b 2) (lotN (hx b 3)) (sA g) (sB g))
  -- the class
  have nE : ∀ l : List Nat, ∀ z, z ∉ l → True := fun _ _ _ => trivial
  have x70 : ∀ z, z ≠ 2 → z ≠ 30 → z ≠ 31 → z ≠ b → z ≠ b + 2 → z ≠ b + 3 → z ≠ b + 4 → hx z = hx0 z := fun z a1 a2 a3 a4 a5 a6 a7 => EX z (by simp only [List.mem_cons, List.not_mem_nil, or_false]; omega)
  have n70 : ∀ z, z ≠ 31 → z ≠ b → h9 z = hx z := fun z a1 a2 => mE z (by simp only [List.mem_cons, List.not_mem_nil, or_false]; omega)
  obtain ⟨⟨hA, sA1, sA2⟩, _, _⟩ := LX h9 (by rw [n70 70 (by omega) (by omega), x70 70 (by omega) (by omega) (by omega) (by omega) (by omega) (by omega) (by omega)]) (by rw [n70 71 (by omega) (by omega), x70 71 (by omega) (by omega) (by omega) (by omega) (by omega) (by omega) (by omega)]) mv
  have E30 : ∀ {a a' : Hp}, Ex [30] a a' → ∀ z, z ≠ 30 → a' z = a z := fun hE z hz => hE z (by simpa using hz)
  have cX : mX3_isRubbed b tt hx (nI p) (nI g) c k = (if bI sx = 0 then cl2 (mTells tt hA 118 0) (fun r13 h14 => cl1 (mX0_held r13 25) (fun r16 => cl2 (mTells tt h14 121 1) (fun r18 h19 => cl1 (mX0_held r18 25) (fun r21 => cl1 (mX3_wears b h19 1 (nI p) r16) (fun h24 => cl1 (mX3_wears b h24 0 (nI q) r21) (fun h26 => some h26)))))) else some hA) := by
    unfold mX3_isRubbed
    rw [facing_s hp hg, hf, cl1_s, show on1 (some q) = nI q from rfl, ck_s hp (by decide), ck_s hq (by decide), nI_clamp (by omega), nI_clamp (by omega), (HU p hp).2.2.1, (HU q hq).2.2.2, m1, cl1_s, m3, cl2_s, m2, m4, cl1_s, sA1, cl2_s]
  -- the reference
  have T15 : ∀ i, i ≠ 3 → (u2 (u2 (u2 (u2 (u2 (u2 (u2 (u2 (u2 (u2 (u2 hm 228 0 (nI (U p))) 228 1 (nI (L q))) 228 2 (jrem (nI p) 8)) 228 3 (nI p / 8)) 228 4 (sA g + 4)) 228 5 (sB g + 3)) 228 6 c) 228 7 (jrem k 100)) 228 8 (jrem (hm 300 4) 100)) 300 3 (lotN (hm 300 3))) 228 9 (jrem (lotN (hm 300 3)) 10)) 300 i = hm 300 i := fun i hi => by
    rw [u2_n (by decide), u2_e, upd_n hi]
    rfl
  have Tz : ∀ z, z ≠ 228 → z ≠ 300 → (u2 (u2 (u2 (u2 (u2 (u2 (u2 (u2 (u2 (u2 (u2 hm 228 0 (nI (U p))) 228 1 (nI (L q))) 228 2 (jrem (nI p) 8)) 228 3 (nI p / 8)) 228 4 (sA g + 4)) 228 5 (sB g + 3)) 228 6 c) 228 7 (jrem k 100)) 228 8 (jrem (hm 300 4) 100)) 300 3 (lotN (hm 300 3))) 228 9 (jrem (lotN (hm 300 3)) 10)) z = hm z := fun z h1 h2 => by
    rw [u2_n h1, u2_n h2, u2_n h1, u2_n h1, u2_n h1, u2_n h1, u2_n h1, u2_n h1, u2_n h1, u2_n h1, u2_n h1]
  have T3 : (u2 (u2 (u2 (u2 (u2 (u2 (u2 (u2 (u2 (u2 (u2 hm 228 0 (nI (U p))) 228 1 (nI (L q))) 228 2 (jrem (nI p) 8)) 228 3 (nI p / 8)) 228 4 (sA g + 4)) 228 5 (sB g + 3)) 228 6 c) 228 7 (jrem k 100)) 228 8 (jrem (hm 300 4) 100)) 300 3 (lotN (hm 300 3))) 228 9 (jrem (lotN (hm 300 3)) 10)) 300 3 = lotN (hm 300 3) := by
    rw [u2_n (by decide), u2_e, upd_e]
  have TV : ∀ i, i < 10 → (u2 (u2 (u2 (u2 (u2 (u2 (u2 (u2 (u2 (u2 (u2 hm 228 0 (nI (U p))) 228 1 (nI (L q))) 228 2 (jrem (nI p) 8)) 228 3 (nI p / 8)) 228 4 (sA g + 4)) 228 5 (sB g + 3)) 228 6 c) 228 7 (jrem k 100)) 228 8 (jrem (hm 300 4) 100)) 300 3 (lotN (hm 300 3))) 228 9 (jrem (lotN (hm 300 3)) 10)) 228 i = mvl (nI (U p)) (nI (L q)) (nI p) (nI g) c k (hx b 2) (lotN (hx b 3)) (sA g) (sB g) i := fun i hi => by
    rw [show hx b 2 = hm 300 4 by rw [en, emn], show hx b 3 = hm 300 3 by rw [ex, em]]
    rcases i10cs hi with e | e | e | e | e | e | e | e | e | e <;> subst e <;> rfl
  have cM : mX5_wearsAt hm (nI p) k c = cl2 (mX5_firstOf (u2 (u2 (u2 (u2 (u2 (u2 (u2 (u2 (u2 (u2 (u2 hm 228 0 (nI (U p))) 228 1 (nI (L q))) 228 2 (jrem (nI p) 8)) 228 3 (nI p / 8)) 228 4 (sA g + 4)) 228 5 (sB g + 3)) 228 6 c) 228 7 (jrem k 100)) 228 8 (jrem (hm 300 4) 100)) 300 3 (lotN (hm 300 3))) 228 9 (jrem (lotN (hm 300 3)) 10)) 120) (fun r21 h22 => if h22 300 15 ≤ r21 then ck (nI p) 48 (nm (fun (s23 : Int32) (h24 : Hp) => ck (nI q) 48 (nm (fun (s25 : Int32) (h26 : Hp) => cl1 (mX5_takes1 h26 1 (nI p) s23) (fun h28 => cl1 (mX5_takes1 h28 0 (nI q) s25) (fun h30 => some (s23 + s25, h30)))) (fun k203 => if h24 202 (nI q).toNatClampNeg = 0 then cl1 (mX5_lowerAt h24 (nI q)) (fun r32 => cl2 (mX5_wornBy h24 121 1) (fun r34 h35 => cl1 (mX5_min r32 r34) (fun r36 => k203 r36 h35))) else k203 0 h24))) (fun k171 => if h22 202 (nI p).toNatClampNeg = 0 then cl1 (mX5_upperAt h22 (nI p)) (fun r39 => cl2 (mX5_wornBy h22 118 0) (fun r41 h42 => cl1 (mX5_min r39 r41) (fun r43 => k171 r43 h42))) else k171 0 h22)) else some (0, h22)) := by
    unfold mX5_wearsAt
    rw [e52, e53, against_s hp hg, hf, cl1_s, show on1 (some q) = nI q from rfl, M_up HL hp, cl1_s, nm_s, M_lo (HM_c (u2_n (by decide)) HL) hq, cl1_s, nm_s, nm_s, nm_s, nm_s, nm_s, nm_s, nm_s, nm_s, M_lot, cl2_s, nm_s]
    simp only [u2_n (show (300 : Nat) ≠ 228 by decide), e52, e53]
  obtain ⟨⟨qq, hB, sB1, sB2, sB3⟩, _, _⟩ := LM (u2 (u2 (u2 (u2 (u2 (u2 (u2 (u2 (u2 (u2 (u2 hm 228 0 (nI (U p))) 228 1 (nI (L q))) 228 2 (jrem (nI p) 8)) 228 3 (nI p / 8)) 228 4 (sA g + 4)) 228 5 (sB g + 3)) 228 6 c) 228 7 (jrem k 100)) 228 8 (jrem (hm 300 4) 100)) 300 3 (lotN (hm 300 3))) 228 9 (jrem (lotN (hm 300 3)) 10)) (by rw [T15 15 (by decide)]; exact FM 15 (by decide) (by decide) (by decide) (by decide)) (by rw [Tz 222 (by decide) (by decide)]; exact EM 222 (by decide)) (by rw [Tz 223 (by decide) (by decide)]; exact EM 223 (by decide)) (by rw [Tz 224 (by decide) (by decide)]; exact EM 224 (by decide)) (by rw [Tz 225 (by decide) (by decide)]; exact EM 225 (by decide)) (by rw [Tz 226 (by decide) (by decide)]; exact EM 226 (by decide)) TV
  rw [sB1, cl2_s] at cM
  generalize (u2 (u2 (u2 (u2 (u2 (u2 (u2 (u2 (u2 (u2 (u2 hm 228 0 (nI (U p))) 228 1 (nI (L q))) 228 2 (jrem (nI p) 8)) 228 3 (nI p / 8)) 228 4 (sA g + 4)) 228 5 (sB g + 3)) 228 6 c) 228 7 (jrem k 100)) 228 8 (jrem (hm 300 4) 100)) 300 3 (lotN (hm 300 3))) 228 9 (jrem (lotN (hm 300 3)) 10)) = T at *
  have E227 : ∀ {a a' : Hp}, Ex [227] a a' → ∀ z, z ≠ 227 → a' z = a z := fun hE z hz => hE z (by simpa using hz)
  have hB15 : hB 300 15 = hm0 300 15 := by
    rw [E227 sB2 300 (by decide), T15 15 (by decide)]
    exact FM 15 (by decide) (by decide) (by decide) (by decide)
  -- what is kept on either side
  have keepX : ∀ h' : Hp, (∀ z, z ≠ 30 → z ≠ b → z ≠ b + 2 → z ≠ b + 3 → z ≠ b + 4 → h' z = h9 z) → Ex [2, 30, 31, b, b + 2, b + 3, b + 4] hx0 h' := fun h' hh z hz => by
    simp only [List.mem_cons, List.not_mem_nil, or_false, not_or] at hz
    rw [hh z hz.2.1 hz.2.2.2.1 hz.2.2.2.2.1 hz.2.2.2.2.2.1 hz.2.2.2.2.2.2, n70 z hz.2.2.1 hz.2.2.2.1]
    exact x70 z hz.1 hz.2.1 hz.2.2.1 hz.2.2.2.1 hz.2.2.2.2.1 hz.2.2.2.2.2.1 hz.2.2.2.2.2.2
  have keepM : ∀ h' : Hp, (∀ z, z ≠ 227 → z ≠ 200 → z ≠ 201 → h' z = T z) → Ex [200, 201, 227, 228, 242, 300] hm0 h' ∧ (∀ i, i ≠ 3 → i ≠ 4 → i ≠ 52 → i ≠ 53 → h' 300 i = hm0 300 i) ∧ h' 300 3 = lotN (hm 300 3) ∧ h' 300 4 = hm 300 4 ∧ h' 242 = hm 242 ∧ h' 300 52 = sA g ∧ h' 300 53 = sB g := fun h' hh => by
    refine ⟨fun z hz => ?_, fun i i3 i4 i5 i6 => ?_, ?_, ?_, ?_, ?_, ?_⟩
    · simp only [List.mem_cons, List.not_mem_nil, or_false, not_or] at hz
      rw [hh z hz.2.2.1 hz.1 hz.2.1, Tz z hz.2.2.2.1 hz.2.2.2.2.2]
      exact EM z (by simp only [List.mem_cons, List.not_mem_nil, or_false, not_or]; exact hz)
    · rw [hh 300 (by decide) (by decide) (by decide), T15 i i3]
      exact FM i i3 i4 i5 i6
    · rw [hh 300 (by decide) (by decide) (by decide), T3]
    · rw [hh 300 (by decide) (by decide) (by decide), T15 4 (by decide)]
    · rw [hh 242 (by decide) (by decide) (by decide), Tz 242 (by decide) (by decide)]
    · rw [hh 300 (by decide) (by decide) (by decide), T15 52 (by decide), e52]
    · rw [hh 300 (by decide) (by decide) (by decide), T15 53 (by decide), e53]
  have fin : ∀ (hx' hm' : Hp) (U' L' : Nat → Nat) (d0 d1 : Int32), HX b hx' U' L' → HM hm' U' L' → hx' (b + 4) 0 = hx (b + 4) 0 + d0 → hx' (b + 4) 1 = hx (b + 4) 1 + d1 → hm' 201 0 = hm 201 0 + d0 → hm' 201 1 = hm 201 1 + d1 → hx' b 3 = lotN (hx b 3) → hx' b 2 = hx b 2 → (∀ z, z ≠ 30 → z ≠ b → z ≠ b + 2 → z ≠ b + 3 → z ≠ b + 4 → hx' z = h9 z) → (∀ z, z ≠ 227 → z ≠ 200 → z ≠ 201 → hm' z = T z) → NS b hx0 hm0 hx' hm' ∧ hx' 2 = hx 2 ∧ hm' 242 = hm 242 ∧ hm' 300 52 = sA g ∧ hm' 300 53 = sB g ∧ hx' b 2 = hx b 2 := by
    intro hx' hm' U' L' d0 d1 a1 a2 a3 a4 a5 a6 a7 a8 a9 a10
    obtain ⟨k1, k2, k3, k4, k5, k6, k7⟩ := keepM hm' a10
    refine ⟨⟨⟨⟨U', L', a1, fun z hz => ⟨(a2 z hz).2.2.2, (a2 z hz).2.2.1⟩⟩, ?_, ?_, ⟨y, hy9, ?_, ?_⟩, ⟨n, hn9, ?_, ?_⟩⟩, keepX hx' a9, k1, k2⟩, ?_, k5, k6, k7, a8⟩
    · rw [a3, a5, w0]
    · rw [a4, a6, w1]
    · rw [a7, ex, ey]
    · rw [k3, em, ey]
    · rw [a8, en]
    · rw [k4, emn]
    · rw [a9 2 (by omega) (by omega) (by omega) (by omega) (by omega), n70 2 (by omega) (by omega)]
  have h9b : ∀ h' : Hp, (∀ z, z ≠ 30 → h' z = h9 z) → h' (b + 2) = hx (b + 2) ∧ h' (b + 3) = hx (b + 3) ∧ h' (b + 4) = hx (b + 4) ∧ h' b 3 = lotN (hx b 3) ∧ (∀ i, i ≠ 3 → h' b i = hx b i) ∧ ∀ p', h' 1 p' = hx0 1 p' := fun h' hh => by
    refine ⟨?_, ?_, ?_, ?_, fun i hi => ?_, fun p' => ?_⟩
    · rw [hh _ (by omega), n70 _ (by omega) (by omega)]
    · rw [hh _ (by omega), n70 _ (by omega) (by omega)]
    · rw [hh _ (by omega), n70 _ (by omega) (by omega)]
    · rw [hh _ (by omega)]
      exact mx
    · rw [hh _ (by omega)]
      exact mo i hi
    · rw [hh _ (by omega), n70 _ (by omega) (by omega), x70 1 (by omega) (by omega) (by omega) (by omega) (by omega) (by omega) (by omega)]
  have TH : ∀ h' : Hp, (∀ z, z ≠ 227 → h' z = T z) → HM h' U L ∧ h' 201 = hm 201 ∧ ∀ p', h' 202 p' = hm0 202 p' := fun h' hh => by
    refine ⟨HM_c ?_ HL, ?_, fun p' => ?_⟩
    · rw [hh 200 (by decide), Tz 200 (by decide) (by decide)]
    · rw [hh 201 (by decide), Tz 201 (by decide) (by decide)]
    · rw [hh 202 (by decide), Tz 202 (by decide) (by decide)]
      exact congrFun (EM 202 (by decide)) p'
  cases sx with
  | true =>
    have h1 := h9b hA (E30 sA2)
    have h2 := TH hB (E227 sB2)
    have hn : ¬ hB 300 15 ≤ qq := fun h9 => by
      rw [hB15] at h9
      have := sB3.mp h9
      cases this
    refine ⟨hA, hB, 0, by rw [cX, bI_t, i10], by rw [cM, if_neg hn], ?_⟩
    have F := fin hA hB U L 0 0 (HX_c h1.2.1 h1.1 HU) h2.1 (by rw [h1.2.2.1, Int32.add_zero]) (by rw [h1.2.2.1, Int32.add_zero]) (by rw [h2.2.1, Int32.add_zero]) (by rw [h2.2.1, Int32.add_zero]) h1.2.2.2.1 (h1.2.2.2.2.1 2 (by decide)) (fun z z1 _ _ _ _ => E30 sA2 z z1) (fun z z1 _ _ => E227 sB2 z z1)
    exact ⟨F.1, by rw [h1.2.2.2.2.1 4 (by decide), Int32.add_zero], F.2⟩
  | false =>
    have hA70 : hA 70 3 = hx0 70 3 := by rw [E30 sA2 70 (by decide), n70 70 (by omega) (by omega), x70 70 (by omega) (by omega) (by omega) (by omega) (by omega) (by omega) (by omega)]
    have hA71 : hA 71 = hx0 71 := by rw [E30 sA2 71 (by decide), n70 71 (by omega) (by omega), x70 71 (by omega) (by omega) (by omega) (by omega) (by omega) (by omega) (by omega)]
    obtain ⟨_, ⟨h14, t1, t2⟩, _⟩ := LX hA hA70 hA71 (fun i hi => by rw [E30 sA2 31 (by decide)]; exact mv i hi)
    obtain ⟨_, _, ⟨h19, u1, u9⟩⟩ := LX h14 (by rw [E30 t2 70 (by decide)]; exact hA70) (by rw [E30 t2 71 (by decide)]; exact hA71) (fun i hi => by rw [E30 t2 31 (by decide), E30 sA2 31 (by decide)]; exact mv i hi)
    have e19 : ∀ z, z ≠ 30 → h19 z = h9 z := fun z hz => by rw [E30 u9 z hz, E30 t2 z hz, E30 sA2 z hz]
    obtain ⟨v, hv, ev⟩ := hld_n tv
    obtain ⟨y', hy', ey'⟩ := hld_n ty
    have h1 := h9b h19 e19
    have HX19 : HX b h19 U L := HX_c h1.2.1 h1.1 HU
    obtain ⟨g1, a1, a2, a3, a4, a5, a6, a7⟩ := X_wr HX19 (c := 1) (p := p) (v := v) (by decide) hp hv
    rw [show hts U L 1 p = U p from rfl, h1.2.2.2.2.2 p] at a2 a3 a5
    rw [dL_1] at a2
    obtain ⟨g2, b1, b2, b3, b4, b5, b6, b7⟩ := X_wr a2 (c := 0) (p := q) (v := y') (by decide) hq hy'
    have o1 : g1 1 q = hx0 1 q := by
      rw [a7 1 (by simp only [List.mem_cons, List.not_mem_nil, or_false]; omega), h1.2.2.2.2.2 q]
    rw [show hts (dU U 1 p (wrD (hx0 1 p) v (U p))) L 0 q = L q from rfl, o1] at b2 b3 b5
    rw [dU_0] at b2
    have a1' : mX3_wears b h19 1 (nI p) (nI v) = some g1 := a1
    have b1' : mX3_wears b g1 0 (nI q) (nI y') = some g2 := b1
    have hd1 : wrD (hx0 1 p) v (U p) ≤ U p := wrD_le _ _ _
    have hd0 : wrD (hx0 1 q) y' (L q) ≤ L q := wrD_le _ _ _
    -- the reference's two stages
    have hOp : hm0 202 p = hx0 1 p := (hOff p hp).1.symm
    have hOq : hm0 202 q = hx0 1 q := (hOff q hq).1.symm
    have lm : ∀ h' : Hp, (∀ z, z ≠ 227 → h' z = T z) → (∃ h'', mX5_wornBy h' 118 0 = some (hld tv, h'') ∧ Ex [227] h' h'') ∧ ∃ h'', mX5_wornBy h' 121 1 = some (hld ty, h'') ∧ Ex [227] h' h'' := fun h' hh => by
      have := LM h' (by rw [hh 300 (by decide), T15 15 (by decide)]; exact FM 15 (by decide) (by decide) (by decide) (by decide)) (by rw [hh 222 (by decide), Tz 222 (by decide) (by decide)]; exact EM 222 (by decide)) (by rw [hh 223 (by decide), Tz 223 (by decide) (by decide)]; exact EM 223 (by decide)) (by rw [hh 224 (by decide), Tz 224 (by decide) (by decide)]; exact EM 224 (by decide)) (by rw [hh 225 (by decide), Tz 225 (by decide) (by decide)]; exact EM 225 (by decide)) (by rw [hh 226 (by decide), Tz 226 (by decide) (by decide)]; exact EM 226 (by decide)) (fun i hi => by rw [hh 228 (by decide)]; exact TV i hi)
      exact this.2
    have hUp := hU p hp
    have hUq := hU q hq
    obtain ⟨h24, E24, st1⟩ : ∃ h24 : Hp, (∀ z, z ≠ 227 → h24 z = T z) ∧ ∀ K : Int32 → Hp → Option (Int32 × Hp), (if hB 202 (nI p).toNatClampNeg = 0 then cl1 (mX5_upperAt hB (nI p)) (fun r39 => cl2 (mX5_wornBy hB 118 0) (fun r41 h42 => cl1 (mX5_min r39 r41) (fun r43 => K r43 h42))) else K 0 hB) = K (nI (wrD (hx0 1 p) v (U p))) h24 := by
      have h2 := TH hB (E227 sB2)
      rw [nI_clamp (by omega), h2.2.2 p, hOp]
      unfold wrD
      by_cases o : hx0 1 p = 0
      · obtain ⟨⟨h42, p1, p2⟩, _⟩ := lm hB (E227 sB2)
        refine ⟨h42, fun z hz => (E227 p2 z hz).trans (E227 sB2 z hz), fun K => ?_⟩
        rw [if_pos o, if_pos o, M_up h2.1 hp, cl1_s, p1, cl2_s, ev, M_min25 hUp.1 hv, cl1_s]
      · refine ⟨hB, E227 sB2, fun K => ?_⟩
        rw [if_neg o, if_neg o]
        rfl
    obtain ⟨h26, E26, st2⟩ : ∃ h26 : Hp, (∀ z, z ≠ 227 → h26 z = T z) ∧ ∀ K : Int32 → Hp → Option (Int32 × Hp), (if h24 202 (nI q).toNatClampNeg = 0 then cl1 (mX5_lowerAt h24 (nI q)) (fun r32 => cl2 (mX5_wornBy h24 121 1) (fun r34 h35 => cl1 (mX5_min r32 r34) (fun r36 => K r36 h35))) else K 0 h24) = K (nI (wrD (hx0 1 q) y' (L q))) h26 := by
      have h2 := TH h24 E24
      rw [nI_clamp (by omega), h2.2.2 q, hOq]
      unfold wrD
      by_cases o : hx0 1 q = 0
      · obtain ⟨_, ⟨h35, p1, p2⟩⟩ := lm h24 E24
        refine ⟨h35, fun z hz => (E227 p2 z hz).trans (E24 z hz), fun K => ?_⟩
        rw [if_pos o, if_pos o, M_lo h2.1 hq, cl1_s, p1, cl2_s, ey', M_min25 hUq.2 hy', cl1_s]
      · refine ⟨h24, E24, fun K => ?_⟩
        rw [if_neg o, if_neg o]
        rfl
    have h2 := TH h26 E26
    obtain ⟨m1, c1, c2, c3, c4, c5⟩ := M_takes1 h2.1 (c := 1) (p := p) (d := wrD (hx0 1 p) v (U p)) (by decide) hp hd1
    rw [dL_1] at c2
    obtain ⟨m2, f1, f2, f3, f4, f5⟩ := M_takes1 c2 (c := 0) (p := q) (d := wrD (hx0 1 q) y' (L q)) (by decide) hq hd0
    rw [dU_0] at f2
    have c1' : mX5_takes1 h26 1 (nI p) (nI (wrD (hx0 1 p) v (U p))) = some m1 := c1
    have f1' : mX5_takes1 m1 0 (nI q) (nI (wrD (hx0 1 q) y' (L q))) = some m2 := f1
    have hle : hB 300 15 ≤ qq := by
      rw [hB15]
      exact sB3.mpr rfl
    refine ⟨g2, m2, nI (wrD (hx0 1 p) v (U p)) + nI (wrD (hx0 1 q) y' (L q)), ?_, ?_, ?_⟩
    · rw [cX, bI_f, i00, t1, cl2_s, show mX0_held tv 25 = some (hld tv) from rfl, cl1_s, u1, cl2_s, show mX0_held ty 25 = some (hld ty) from rfl, cl1_s, ev, ey', a1', cl1_s, b1', cl1_s]
    · rw [cM, if_pos hle, ck_s hp (by decide), nm_s, st1, ck_s hq (by decide), nm_s, st2, c1', cl1_s, f1', cl1_s]
    · have x0 : g2 (b + 4) 0 = hx (b + 4) 0 + nI (wrD (hx0 1 q) y' (L q)) := by
        rw [b3, show g1 (b + 4) 0 = h19 (b + 4) 0 from a4, h1.2.2.1]
      have x1 : g2 (b + 4) 1 = hx (b + 4) 1 + nI (wrD (hx0 1 p) v (U p)) := by
        rw [show g2 (b + 4) 1 = g1 (b + 4) 1 from b4, a3, h1.2.2.1]
      have y0 : m2 201 0 = hm 201 0 + nI (wrD (hx0 1 q) y' (L q)) := by
        rw [f3, show m1 201 0 = h26 201 0 from c4, h2.2.1]
      have y1 : m2 201 1 = hm 201 1 + nI (wrD (hx0 1 p) v (U p)) := by
        rw [show m2 201 1 = m1 201 1 from f4, c3, h2.2.1]
      have F := fin g2 m2 _ _ _ _ b2 f2 x0 x1 y0 y1 (by rw [b6 3 (by decide), a6 3 (by decide)]; exact h1.2.2.2.1) (by rw [b6 2 (by decide), a6 2 (by decide)]; exact h1.2.2.2.2.1 2 (by decide)) (fun z z1 z2 z3 z4 z5 => by rw [b7 z (by simp only [List.mem_cons, List.not_mem_nil, or_false]; omega), a7 z (by simp only [List.mem_cons, List.not_mem_nil, or_false]; omega)]; exact e19 z z1) (fun z z1 z2 z3 => by rw [f5 z (by simp only [List.mem_cons, List.not_mem_nil, or_false]; omega), c5 z (by simp only [List.mem_cons, List.not_mem_nil, or_false]; omega)]; exact E26 z z1)
      refine ⟨F.1, ?_, F.2⟩
      rw [b5, a5, h1.2.2.2.2.1 4 (by decide), Int32.add_assoc]
