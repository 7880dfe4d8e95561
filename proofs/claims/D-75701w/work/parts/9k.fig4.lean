/-! figure: the reference -/
set_option maxRecDepth 100000
theorem dtb {p q r : Nat} (hp : p < 48) (hq : q < 48) (hr : r < 48) : -98 ≤ dt p q r ∧ dt p q r ≤ 98 := by
  have a := cxb hp
  have b := cxb hq
  have c := cxb hr
  have h1 := mulb (a := cx p - cx r) (b := cx q - cx r) (by omega) (by omega)
  have h2 := mulb (a := cy p - cy r) (b := cy q - cy r) (by omega) (by omega)
  unfold dt
  omega
theorem M_isEdge {P : Nat → Bool} {T : Nat → Nat} {n : Nat} {g : Hp} (H : TL P T n g) {p q : Nat} (hp : p < 48) (hq : q < 48) : R (mX5_isEdge g (nI p) (nI q)) (fun r => r = bI (bo (Eg P p q))) := by
  have hT := H.1
  have hn := H.2.1
  have h50 := H.2.2.1
  have h249 := H.2.2.2
  unfold mX5_isEdge
  refine fx_R1 n (fun i x => x = nI i ∧ ∀ i', i' < i → 0 ≤ tn p q (T i') ∧ (tn p q (T i') = 0 → dt p q (T i') ≤ 0)) (by show n < 100000; omega) ⟨rfl, fun i' h9 => by omega⟩ ?_
  rintro i x k hi ⟨rfl, hI⟩ hk
  rw [h50]
  by_cases hin : i = n
  · subst hin
    rw [if_pos (nI_le (Nat.le_refl _) (by omega)), nm_s]
    have all : ∀ r, r < 48 → P r = true → 0 ≤ tn p q r ∧ (tn p q r = 0 → dt p q r ≤ 0) := fun r hr Pr => by
      obtain ⟨a, ha, ea⟩ := TCH_ex hT Pr i (Nat.le_refl _) (by rw [hT.1]; exact hr)
      rw [← ea]
      exact hI a ha
    by_cases e : p = q
    · rw [if_pos (by rw [e]), bo_f (fun h => h.1 e)]
      show R (bz 0 _) _
      rw [bz_0]
      exact R_some rfl
    · rw [if_neg (fun h => e ((nI_eq (by omega) (by omega)).mp h)), bo_t ⟨e, all⟩]
      show R (bz 1 _) _
      rw [bz_1]
      exact R_some rfl
  · have hi' : i < n := by omega
    have hr := TL_lt H hi'
    have Pr := (hT.2.1 i hi').2
    have t1 := tnb hp hq hr
    have d1 := dtb hp hq hr
    rw [if_neg (nI_ge hi' (by omega)), ck_s (show i < 48 by omega) (by decide), nI_clamp (by omega), h249 i hi', nm_s, M_round3 hp hq hr, cl1_s, nI_1]
    by_cases c1 : 0 ≤ tn p q (T i)
    · rw [if_pos (show 0 ≤ iI (tn p q (T i)) from (iI_le (a := 0) (by omega) (by omega)).mpr c1), nm_s, nm_s, nm_s, r8 hp, r8 hq, r8 hr, q8 hp, q8 hq, q8 hr, iI_sub, iI_sub, iI_sub, iI_sub, iI_mul, iI_mul, iI_add]
      have go : (tn p q (T i) = 0 → dt p q (T i) ≤ 0) → R (k (nI (i + 1))) (fun r => r = bI (bo (Eg P p q))) := fun h9 => by
        refine hk (i + 1) _ (by omega) (by omega) ⟨rfl, fun i' hi9 => ?_⟩
        by_cases e : i' = i
        · rw [e]
          exact ⟨c1, h9⟩
        · exact hI i' (by omega)
      by_cases c2 : tn p q (T i) = 0
      · rw [if_pos (show iI (tn p q (T i)) = 0 from (iI_eq (b := 0) (by omega) (by omega)).mpr c2)]
        show R (if iI (dt p q (T i)) ≤ 0 then _ else _) _
        by_cases c3 : dt p q (T i) ≤ 0
        · rw [if_pos (show iI (dt p q (T i)) ≤ 0 from (iI_le (b := 0) (by omega) (by omega)).mpr c3)]
          exact go (fun _ => c3)
        · rw [if_neg (show ¬ iI (dt p q (T i)) ≤ 0 from fun e => c3 ((iI_le (b := 0) (by omega) (by omega)).mp e)), bz_0, bo_f (fun h => c3 ((h.2 _ hr Pr).2 c2))]
          exact R_some rfl
      · rw [if_neg (show ¬ iI (tn p q (T i)) = 0 from fun e => c2 ((iI_eq (b := 0) (by omega) (by omega)).mp e))]
        exact go (fun e => absurd e c2)
    · rw [if_neg (show ¬ 0 ≤ iI (tn p q (T i)) from fun e => c1 ((iI_le (a := 0) (by omega) (by omega)).mp e)), bz_0, bo_f (fun h => c1 (h.2 _ hr Pr).1)]
      exact R_some rfl
theorem sI_gap {F : Nat → Int} {x : Nat} : ∀ d, (∀ c, x < c → c < x + 1 + d → F c = 0) → sI F (x + 1 + d) = sI F x + F x
  | 0, _ => rfl
  | d + 1, h => by
    show sI F (x + 1 + d) + F (x + 1 + d) = _
    rw [sI_gap d (fun c h1 h2 => h c h1 (by omega)), h (x + 1 + d) (by omega) (by omega), Int.add_zero]
theorem TCH_i {P : Nat → Bool} {T : Nat → Nat} {n m : Nat} (H : TCH P T n m) {F : Nat → Int} (hF : ∀ c, P c = false → F c = 0) {i : Nat} (hi : i < n) : sI F (T (i + 1)) = sI F (T i) + F (T i) := by
  have h1 := (H.2.1 i hi).1
  have := sI_gap (F := F) (x := T i) (T (i + 1) - (T i + 1)) (fun c a b => hF c (H.2.2.1 i c hi a (by omega)))
  rw [show T i + 1 + (T (i + 1) - (T i + 1)) = T (i + 1) by omega] at this
  exact this
theorem TCH_i0 {P : Nat → Bool} {T : Nat → Nat} {n m : Nat} (H : TCH P T n m) {F : Nat → Int} (hF : ∀ c, P c = false → F c = 0) : sI F (T 0) = 0 := sI_0 _ (fun c hc => hF c (H.2.2.2 c hc))
noncomputable def gM (P : Nat → Bool) (p q : Nat) : Int := (if eU P p q = true then crs p q else 0) + (if eD P p q = true then crs p q else 0)
theorem gM_e {P : Nat → Bool} {p q : Nat} (hp : p < 48) (hq : q < 48) (Pp : P p = true) (Pq : P q = true) : gM P p q = if bo (Eg P p q) = true then crs p q else 0 := by
  unfold gM
  by_cases c1 : p < q
  · have e1 : eU P p q = bo (Eg P p q) := bo_c ⟨fun h => (Eg_u c1 hq).mpr h.2.2, fun h => ⟨Pp, Pq, (Eg_u c1 hq).mp h⟩⟩
    have e2 : eD P p q = false := bo_f (fun h => by have := h.2.2.1; omega)
    rw [e1, e2, if_neg (show ¬ false = true by decide), Int.add_zero]
  · by_cases c2 : q < p
    · have e1 : eD P p q = bo (Eg P p q) := bo_c ⟨fun h => (Eg_d c2 hp).mpr h.2.2, fun h => ⟨Pp, Pq, (Eg_d c2 hp).mp h⟩⟩
      have e2 : eU P p q = false := bo_f (fun h => by have := h.2.2.1; omega)
      rw [e1, e2, if_neg (show ¬ false = true by decide), Int.zero_add]
    · have e2 : eU P p q = false := bo_f (fun h => by have := h.2.2.1; omega)
      have e3 : eD P p q = false := bo_f (fun h => by have := h.2.2.1; omega)
      have e4 : bo (Eg P p q) = false := bo_f (fun h => h.1 (by omega))
      rw [e2, e3, e4]
      rfl
theorem gM_0 {P : Nat → Bool} {p q : Nat} (h : P p = false ∨ P q = false) : gM P p q = 0 := by
  have e2 : eU P p q = false := bo_f (fun g => by
    rcases h with h | h
    · rw [g.1] at h; cases h
    · rw [g.2.1] at h; cases h)
  have e3 : eD P p q = false := bo_f (fun g => by
    rcases h with h | h
    · rw [g.1] at h; cases h
    · rw [g.2.1] at h; cases h)
  unfold gM
  rw [e2, e3]
  rfl
theorem tot_g (P : Nat → Bool) : tot P = sI (fun p => sI (gM P p) 48) 48 := by
  unfold tot
  refine sI_c 48 (fun p hp => ?_)
  unfold oU oD
  rw [← sI_add]
  rfl
theorem M_figure {h : Hp} {U L : Nat → Nat} (H : HM h U L) : R (mX5_figure h) (fun r => r.1 = iI (tot (mk U L 31 0)) ∧ SM h r.2) := by
  unfold mX5_figure
  refine R_c1 (M_lays50 H) ?_
  rintro g ⟨T, n, hT, hn, h50, h249, hE, ho⟩
  have hS : SM h g := ⟨fun k hk => hE k (pM_249 k hk), fun i hi => ho i (fM_50 i hi)⟩
  generalize mk U L 31 0 = P at hT ⊢
  have hTL : TL P T n g := ⟨hT, hn, h50, h249⟩
  rw [tot_g]
  have hF : ∀ c, P c = false → sI (gM P c) 48 = 0 := fun c hc => sI_0 48 (fun q _ => gM_0 (Or.inl hc))
  refine fx_R2 n (fun i x y => y = nI i ∧ x = iI (sI (fun p => sI (gM P p) 48) (T i))) (by show n < 100000; omega) ⟨rfl, by rw [TCH_i0 hT hF]; rfl⟩ ?_
  rintro i x y k hi ⟨rfl, rfl⟩ hk
  rw [h50]
  by_cases hin : i = n
  · subst hin
    rw [if_pos (nI_le (Nat.le_refl _) (by omega)), hT.1]
    exact R_some ⟨rfl, hS⟩
  · have hi' : i < n := by omega
    have hp := TL_lt hTL hi'
    have Pp := (hT.2.1 i hi').2
    have hG : ∀ c, P c = false → gM P (T i) c = 0 := fun c hc => gM_0 (Or.inr hc)
    rw [if_neg (nI_ge hi' (by omega))]
    refine fx_R2 n (fun j x y => y = nI j ∧ x = iI (sI (fun p => sI (gM P p) 48) (T i) + sI (gM P (T i)) (T j))) (by show n < 100000; omega) ⟨rfl, by rw [TCH_i0 hT hG, Int.add_zero]⟩ ?_
    rintro j x y k2 hj ⟨rfl, rfl⟩ hk2
    by_cases hjn : j = n
    · subst hjn
      rw [if_pos (nI_le (Nat.le_refl _) (by omega)), nI_1]
      refine hk (i + 1) _ _ (by omega) (by omega) ⟨rfl, ?_⟩
      rw [TCH_i hT hF hi', hT.1]
    · have hj' : j < n := by omega
      have hq := TL_lt hTL hj'
      have Pq := (hT.2.1 j hj').2
      rw [if_neg (nI_ge hj' (by omega)), ck_s (show i < 48 by omega) (by decide), nI_clamp (by omega), h249 i hi', nm_s, ck_s (show j < 48 by omega) (by decide), nI_clamp (by omega), h249 j hj', nm_s]
      refine R_c1 (M_isEdge hTL hp hq) ?_
      rintro _ rfl
      have ge := gM_e hp hq Pp Pq
      have st := TCH_i hT hG hj'
      rw [nm_s, nI_1]
      by_cases c : Eg P (T i) (T j)
      · rw [bo_t c, if_pos rfl] at ge
        rw [bo_t c, bI_t, i10, nm_s, r8 hp, r8 hq, q8 hp, q8 hq, iI_mul, iI_mul, iI_add, iI_sub]
        refine hk2 (j + 1) _ _ (by omega) (by omega) ⟨rfl, ?_⟩
        rw [st, ge]
        congr 1
        unfold crs
        omega
      · rw [bo_f c, if_neg (by decide)] at ge
        rw [bo_f c, bI_f, i00]
        refine hk2 (j + 1) _ _ (by omega) (by omega) ⟨rfl, ?_⟩
        rw [st, ge, Int.add_zero]
theorem st_figure (LW : LWt) : St_figure (II LW) := by
  intro tt hx hm H
  obtain ⟨U, L, HU, HL⟩ := BM_HX H.1
  exact st_hh (fun a => a = iI (tot (mk U L 31 0))) (fun a => a = iI (tot (mk U L 31 0))) H (X_figure HU) (M_figure HL) (fun a b p q => by rw [p, q])
