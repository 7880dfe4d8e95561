/-! evenest, splint -/
set_option maxRecDepth 100000
/-- gaps of the places below n -/
def gsm (U L : Nat → Nat) (g : Nat) : Nat → Int
  | 0 => 0
  | n + 1 => match fcg n g with
    | none => gsm U L g n
    | some q => gsm U L g n + ((opn U L g : Nat) - (U n + L q : Nat))
def ssm (U L : Nat → Nat) (g : Nat) : Nat → Int
  | 0 => 0
  | n + 1 => match fcg n g with
    | none => ssm U L g n
    | some q => ssm U L g n + (U n + L q : Nat)
theorem gsm_e (U L : Nat → Nat) (g : Nat) : ∀ n, gsm U L g n = ((cnt (fcs g) n : Nat) : Int) * (opn U L g : Nat) - ssm U L g n
  | 0 => by
    rw [gsm, ssm, cnt]
    simp
  | n + 1 => by
    have ih := gsm_e U L g n
    rw [gsm, ssm, cnt, fcs]
    cases hf : fcg n g with
    | none =>
      show gsm U L g n = ((cnt (fcs g) n + 0 : Nat) : Int) * _ - ssm U L g n
      rw [Nat.add_zero]
      exact ih
    | some q =>
      show gsm U L g n + _ = ((cnt (fcs g) n + 1 : Nat) : Int) * _ - (ssm U L g n + _)
      rw [ih, show ((cnt (fcs g) n + 1 : Nat) : Int) = (cnt (fcs g) n : Nat) + 1 by omega, Int.add_mul, Int.one_mul]
      omega
theorem X_gapsIn {h : Hp} {U L : Nat → Nat} (H : HX 40 h U L) {g : Nat} (hg : g < 63) : mX0_gapsIn h (nI g) = some (iI (gsm U L g 48)) := by
  unfold mX0_gapsIn
  rw [X_opn H hg, cl1_s]
  refine fx_g2 (fun j => iI (gsm U L g j)) (fun j => nI j) 48 rfl rfl (by decide) (fun j hj k => ?_) (fun k => ?_)
  · simp only [nm_s]
    rw [if_neg (nl48 hj), facing_s hj hg, cl1_s, nI_1]
    cases hf : fcg j g with
    | none => rw [show on1 none = -1 from rfl, if_pos rfl, Int32.add_zero, show gsm U L g (j + 1) = gsm U L g j from by rw [gsm]; rw [hf]]
    | some q =>
      have hq := fcg_lt hf
      rw [show on1 (some q) = nI q from rfl, if_neg (ne_m1 (by omega)), X_sumAt H hj hg hf, cl1_s, nI_sub, iI_add, show gsm U L g (j + 1) = gsm U L g j + ((opn U L g : Nat) - (U j + L q : Nat)) from by rw [gsm]; rw [hf]]
  · rw [if_pos (show (48 : Int32) ≤ nI 48 by decide)]
theorem M_gapsOf {h : Hp} {U L : Nat → Nat} (H : HM h U L) {g : Nat} (hg : g < 63) : mX5_gapsOf h (nI g) = some (iI (gsm U L g 48)) := by
  unfold mX5_gapsOf
  simp only [nm_s]
  rw [g9A hg, g9B hg, facing_n ⟨g, hg⟩, cl1_s, M_opn H hg, cl1_s]
  refine fx_g2 (fun j => iI (((cnt (fcs g) 48 : Nat) : Int) * (opn U L g : Nat) - ssm U L g j)) (fun j => nI j) 48 ?_ rfl (by decide) (fun j hj k => ?_) (fun k => ?_)
  · show iI (_ - 0) = nI _ * nI _
    rw [iI_n, iI_n, iI_mul, Int.sub_zero]
  · rw [if_neg (nl48 hj), against_s hj hg, cl1_s, nI_1]
    cases hf : fcg j g with
    | none => rw [show on1 none = -1 from rfl, if_pos rfl, show ssm U L g (j + 1) = ssm U L g j from by rw [ssm]; rw [hf]]
    | some q =>
      have hq := fcg_lt hf
      rw [show on1 (some q) = nI q from rfl, if_neg (ne_m1 (by omega)), M_sumAt H hj hg, cl1_s, hf, show ssm U L g (j + 1) = ssm U L g j + (U j + L q : Nat) from by rw [ssm]; rw [hf]]
      show k (iI _ - nI (U j + L q)) _ = _
      rw [iI_n (U j + L q), iI_sub]
      congr 2
      omega
  · rw [if_pos (show (48 : Int32) ≤ nI 48 by decide), gsm_e]
def evn (G F : Nat → Int32) : Nat → Nat
  | 0 => 0
  | n + 1 => if G (evn G F n) * F (n + 1) ≤ G (n + 1) * F (evn G F n) then evn G F n else n + 1
theorem evn_le (G F : Nat → Int32) : ∀ n, evn G F n ≤ n
  | 0 => Nat.le_refl _
  | n + 1 => by
    have := evn_le G F n
    unfold evn
    split <;> omega
theorem evn_s (G F : Nat → Int32) (n : Nat) : evn G F (n + 1) = if G (evn G F n) * F (n + 1) ≤ G (n + 1) * F (evn G F n) then evn G F n else n + 1 := rfl
theorem st_evenest (LW : LWt) : St_evenest (II LW) := by
  intro tt hx hm a0 H
  obtain ⟨U, L, HU, HL⟩ := BM_HX H.1
  unfold mX0_evenest mX5_evenest
  rw [X_in a0 2 2 (by decide), M_wi a0 1 2 (by decide), cl1_s, cl1_s]
  cases h1 : nR a0 2 with
  | false => exact ⟨-1, rfl, rfl, H⟩
  | true =>
    rw [bI_t, i10, i10]
    have gX : ∀ g, g < 63 → mX0_gapsIn hx (nI g) = some ((fun g => iI (gsm U L g 48)) g) := fun g hg => X_gapsIn HU hg
    have gM : ∀ g, g < 63 → mX5_gapsOf hm (nI g) = some ((fun g => iI (gsm U L g 48)) g) := fun g hg => M_gapsOf HL hg
    have fX : ∀ g, g < 63 → mX0_faced hx (nI g) = some ((fun g => nI (cnt (fcs g) 48)) g) := fun g hg => X_faced hx hg
    have fM : ∀ g, g < 63 → mX5_facing (sA g) (sB g) = some ((fun g => nI (cnt (fcs g) 48)) g) := fun g hg => facing_n ⟨g, hg⟩
    generalize (fun g => iI (gsm U L g 48)) = G at gX gM
    generalize (fun g => nI (cnt (fcs g) 48)) = F at fX fM
    rw [show (0 : Int32) = nI 0 from rfl, gM 0 (by omega), cl1_s]
    refine ⟨if a0 = nI 0 then nI (evn G F 62) else G (evn G F 62), ?_, ?_, H⟩
    · refine fx_g2 (fun j => nI (evn G F j)) (fun j => nI (j + 1)) 62 rfl rfl (by decide) (fun j hj k => ?_) (fun k => ?_)
      · have a := evn_le G F j
        rw [if_neg (nl63 (by omega)), gX _ (by omega), gX _ (by omega), fX _ (by omega), fX _ (by omega)]
        simp only [cl1_s, nm_s]
        rw [nI_1, evn_s]
        by_cases q : G (evn G F j) * F (j + 1) ≤ G (j + 1) * F (evn G F j)
        · rw [if_pos q, if_pos q]
        · rw [if_neg q, if_neg q]
      · have a := evn_le G F 62
        rw [if_pos (show (63 : Int32) ≤ nI (62 + 1) by decide), gX _ (by omega)]
        simp only [cl1_s, nm_s]
        rw [some_ite]
    · refine fx_g3 (fun j => nI (evn G F j)) (fun j => G (evn G F j)) (fun j => nI (j + 1)) 62 rfl rfl rfl (by decide) (fun j hj k => ?_) (fun k => ?_)
      · have a := evn_le G F j
        rw [if_neg (nl63 (by omega)), gM _ (by omega), g9A (by omega), g9B (by omega), g9A (by omega), g9B (by omega), fM _ (by omega), fM _ (by omega)]
        simp only [cl1_s, nm_s]
        rw [nI_1, evn_s]
        by_cases q : G (evn G F j) * F (j + 1) ≤ G (j + 1) * F (evn G F j)
        · rw [if_pos q, if_pos q]
        · rw [if_neg q, if_neg q]
      · rw [if_pos (show (63 : Int32) ≤ nI (62 + 1) by decide)]
        simp only [nm_s]
        rw [some_ite]
theorem fcg_rest : ∀ p : Fin 48, fcg p.val 31 = some p.val := by decide +kernel
theorem X_sumR {b : Nat} {h : Hp} {U L : Nat → Nat} (H : HX b h U L) {p : Nat} (hp : p < 48) : mX3_sumAt b h (nI p) 31 = some (nI (U p + L p)) := X_sumAt H hp (g := 31) (by decide) (fcg_rest ⟨p, hp⟩)
theorem M_restAt {h : Hp} {U L : Nat → Nat} (H : HM h U L) {p : Nat} (hp : p < 48) : mX5_restAt h (nI p) = some (nI (U p + L p)) := by
  unfold mX5_restAt
  rw [M_up H hp, cl1_s, M_lo H hp, cl1_s, nI_add]
/-- a sum of n values -/
def sg (f : Nat → Int) : Nat → Int
  | 0 => 0
  | n + 1 => sg f n + f n
theorem sg_s (f : Nat → Int) (n : Nat) : sg f (n + 1) = sg f n + f n := rfl
theorem st_splint (LW : LWt) : St_splint (II LW) := by
  intro tt hx hm a0 a1 H
  obtain ⟨U, L, HU, HL⟩ := BM_HX H.1
  unfold mX0_splint mX5_splint
  rw [X_wi a0 20 21 (by decide), M_wi a0 20 21 (by decide), X_isPlace, M_isPlace]
  simp only [nm_s, cl1_s]
  cases h1 : nR a0 21 with
  | false => exact ⟨-1, rfl, rfl, H⟩
  | true =>
    obtain ⟨v, hv, _, e0⟩ := nR_of h1
    subst e0
    rw [bI_t, i10, i10, X_rest HU, M_rest HL, cl1_s, cl1_s]
    by_cases q : a1 = -1
    · rw [if_pos q, if_pos q, if_pos q, if_pos q, nI_add]
      refine ⟨iI (sg (fun p => ((mxo U L 31 48 + v : Nat) : Int) - (U p + L p : Nat)) 48), ?_, ?_, H⟩
      · refine fx_g2 (fun j => iI (sg (fun p => ((mxo U L 31 48 + v : Nat) : Int) - (U p + L p : Nat)) j)) (fun j => nI j) 48 rfl rfl (by decide) (fun j hj k => ?_) (fun k => ?_)
        · rw [if_neg (nl48 hj), X_sumR HU hj, cl1_s, nI_1, nI_sub, iI_add, sg_s]
        · rw [if_pos (show (48 : Int32) ≤ nI 48 by decide)]
      · refine fx_g2 (fun j => iI (sg (fun p => ((mxo U L 31 48 + v : Nat) : Int) - (U p + L p : Nat)) j)) (fun j => nI j) 48 rfl rfl (by decide) (fun j hj k => ?_) (fun k => ?_)
        · rw [if_neg (nl48 hj), M_restAt HL hj, cl1_s, nI_1, iI_n (mxo U L 31 48 + v), iI_n (U j + L j), iI_add, iI_sub, sg_s]
          congr 2
          omega
        · rw [if_pos (show (48 : Int32) ≤ nI 48 by decide)]
    · rw [if_neg q, if_neg q, if_neg q, if_neg q]
      cases h2 : nR a1 48 with
      | false => exact ⟨-1, rfl, rfl, H⟩
      | true =>
        obtain ⟨p, hp, _, e1⟩ := nR_of h2
        subst e1
        rw [bI_t, i10, i10, X_sumR HU hp, M_restAt HL hp, cl1_s]
        exact ⟨_, rfl, rfl, H⟩
