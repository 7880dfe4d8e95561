set_option maxRecDepth 100000
def Steps (I : TTy → Hp → Hp → Prop) : Prop := St_height I ∧ St_keepOff I ∧ St_feed I ∧ St_law I ∧ St_casts I ∧ St_tour I ∧ St_glide I ∧ St_best I ∧ St_evenest I ∧ St_free I ∧ St_wayTo I ∧ St_toBear I ∧ St_toLower I ∧ St_anywhere I ∧ St_grind I ∧ St_spots I ∧ St_figure I ∧ St_tripods I ∧ St_climb I ∧ St_rolls I ∧ St_pieces I ∧ St_rocks I ∧ St_lean I ∧ St_splint I ∧ St_turnedOver I ∧ St_castIs I ∧ St_heightOf I ∧ St_pools I ∧ St_belongs I ∧ St_along I ∧ St_nights I ∧ St_tried I ∧ St_even I ∧ St_seed I ∧ St_keep I ∧ St_undo I ∧ St_check I ∧ St_count I
theorem tm_swT {G : Gty} {l : Launch} {cc : ByteArray} {nL : Nat} {own : String} {D : va_G} {dA : Nat → ClassId} {fr lo mc ms : Nat} {ρ : Type} {res : ρ} {M : Option ρ} {w : va_W} {ce sl pc : Nat} {lv : List (Nat × Value)} {dflt lo0 hi off : Int} {offs : Array Int} {len j : Nat} {x v : Int32} (X : IsG G l cc nL own D dA fr lo mc ms) (tgt : Nat) (hxv : x = v) (hd : decode cc pc = .ok (.tableswitch dflt lo0 hi offs, len)) (hv : v.toInt = lo0 + (j : Int)) (hj : (j : Int) ≤ hi - lo0) (ho : offs[j]? = some off) (ht : (pc : Int) + off = (tgt : Int)) {st : List Value} (k1 : TM G res M w ce sl tgt lv st) : TM G res M w ce sl pc lv (.int x :: st) := by
  intro hm
  obtain ⟨p, e, R, s, m, args, below, meth, c, Q, A, ⟨hx, hb, hml, hown, hts⟩, hK, hN, hA, ⟨h1, h2, h3, h4⟩, hG⟩ := X
  rw [hG]
  intro H locs ls hP hD hS hl
  subst hxv
  exact lv_tableIn hx hb hd (by omega) (by omega) (by rw [show (x.toInt - lo0).toNat = j by omega]; exact ho) ht ((hG ..).mp (k1 hm) H locs ls hP hD hS hl)
theorem law_next (j : Nat) : nI (6 * j) + 6 = nI (6 * (j + 1)) := by
  show nI (6 * j) + nI 6 = _
  rw [nI_add]
  congr 1
theorem law_in {L j : Nat} {x3 : Int32} (hL : L ≤ 384) (hjL : 6 * j ≤ L) (ex : x3 = nI (6 * j)) (hend : ¬ Int32.ofNat L - 6 < x3) : 6 * j + 6 ≤ L ∧ vp_in x3 L ∧ vp_in (x3 + 1) L ∧ vp_in (x3 + 2) L ∧ vp_in (x3 + 3) L ∧ vp_in (x3 + 4) L ∧ vp_in (x3 + 5) L := by
  subst ex
  have hlt : 6 * j + 6 ≤ L := by
    have h1 : ¬ (nI L - nI 6).toInt < (nI (6 * j)).toInt := fun h => hend (Int32.lt_iff_toInt_lt.mpr h)
    rw [pk_sub_toInt (by omega) (by decide)] at h1
    by_cases hj : 6 * j < 2 ^ 31
    · rw [nI_toInt hj] at h1
      omega
    · omega
  refine ⟨hlt, vp_in_nI (by omega) (by omega), ?_, ?_, ?_, ?_, ?_⟩
  · show vp_in (nI (6 * j) + nI 1) L
    rw [nI_add]
    exact vp_in_nI (by omega) (by omega)
  · show vp_in (nI (6 * j) + nI 2) L
    rw [nI_add]
    exact vp_in_nI (by omega) (by omega)
  · show vp_in (nI (6 * j) + nI 3) L
    rw [nI_add]
    exact vp_in_nI (by omega) (by omega)
  · show vp_in (nI (6 * j) + nI 4) L
    rw [nI_add]
    exact vp_in_nI (by omega) (by omega)
  · show vp_in (nI (6 * j) + nI 5) L
    rw [nI_add]
    exact vp_in_nI (by omega) (by omega)
set_option maxHeartbeats 8000000 in
theorem law_loop {G : Gty} {l : Launch} {D : va_G} {dA : Nat → ClassId} {L : Nat} {xs : Nat → Int32} {b : Nat} (hL : L ≤ 384) (X : IsG G l code 4 "HighSpotsLaw" D dA 8192 100000 1200000 5502250) (hSld : ∀ (w : va_W) (ce sl pc : Nat) (lv : List (Nat × Value)) (st : List Value) (i : Int32), vp_in i L → decode code pc = .ok (.iaload, 1) → G w ce sl (pc + 1) lv (.int (xs i.toNatClampNeg) :: st) → G w ce sl pc lv (.int i :: .ref b :: st)) (hSlen : ∀ (w : va_W) (ce sl pc : Nat) (lv : List (Nat × Value)) (st : List Value), decode code pc = .ok (.arraylength, 1) → G w ce sl (pc + 1) lv (.int (Int32.ofNat L) :: st) → G w ce sl pc lv (.ref b :: st)) (hRet : ∀ (w : va_W) (ce sl pc : Nat) (lv : List (Nat × Value)), ce ≤ 1200000 → sl ≤ 5502250 → decode code pc = .ok (.ireturn, 1) → G w ce sl pc lv [.int 1]) (I : TTy → Hp → Hp → Prop) (hAll : Steps I) (am : Nat → Nat) : ∀ (n j : Nat) (x3 : Int32), 65 ≤ j + n → 6 * j ≤ L → x3 = nI (6 * j) → ∀ (ad : Nat → Nat) (tt : TTy) (hx hm : Hp), I tt hx hm → ∀ (ce sl : Nat), ce ≤ 1000 + 4000 * j → sl ≤ 20000 + 12000 * j → G (wX ad dA tt hx ++ wM am dA hm) ce sl 18 [(0, .ref b), (1, .ref (ad 100)), (2, .ref (am 300)), (3, .int x3)] [] := by
  intro n
  induction n with
  | zero =>
    intro j x3 hj hjL
    omega
  | succ n ih =>
    intro j x3 hj hjL ex3 ad tt hx hm hI ce sl hce hsl
    refine (show TM G () (some ()) (wX ad dA tt hx ++ wM am dA hm) ce sl 18 [(0, .ref b), (1, .ref (ad 100)), (2, .ref (am 300)), (3, .int x3)] [] from ?_) rfl
    refine tm_iload_n X 3 dL_law_18 rfl rfl ?_
    refine tm_aload_n X 0 dL_law_19 rfl rfl ?_
    refine fun e9 => hSlen _ _ _ _ _ _ dL_law_20 ((show TM G () (some ()) (wX ad dA tt hx ++ wM am dA hm) ce sl 21 [(0, .ref b), (1, .ref (ad 100)), (2, .ref (am 300)), (3, .int x3)] [.int (Int32.ofNat L), .int x3] from ?_) e9)
    refine tm_bipush X (6 : Int32) dL_law_21 (by decide) ?_
    refine tm_isub X dL_law_23 ?_
    by_cases hend : Int32.ofNat L - 6 < x3
    · refine tm_ic_gtT X 1366 hend dL_law_24 rfl ?_
      refine tm_iconst X (1 : Int32) dL_law_1366 (by decide) ?_
      exact fun _ => hRet _ _ _ _ _ (by omega) (by omega) dL_law_1367
    · refine tm_ic_gtF X 1366 hend dL_law_24 rfl ?_
      obtain ⟨hlt, hi0, hi1, hi2, hi3, hi4, hi5⟩ := law_in hL hjL ex3 hend
      refine tm_aload_n X 0 dL_law_27 rfl rfl ?_
      refine tm_iload_n X 3 dL_law_28 rfl rfl ?_
      refine tm_sld hSld hi0 dL_law_29 rfl ?_
      refine tm_bipush X (63 : Int32) dL_law_30 (by decide) ?_
      refine tm_iand X dL_law_32 ?_
      have hgo : ∀ (ad' : Nat → Nat) (tt' : TTy) (hx' hm' : Hp) (ce' sl' : Nat), ad' 100 = ad 100 → I tt' hx' hm' → ce' ≤ ce + 4000 → sl' ≤ sl + 12000 → G (wX ad' dA tt' hx' ++ wM am dA hm') ce' sl' 1360 [(0, .ref b), (1, .ref (ad 100)), (2, .ref (am 300)), (3, .int x3)] [] := by
        intro ad' tt' hx' hm' ce' sl' ha hI' h1 h2
        refine (show TM G () (some ()) (wX ad' dA tt' hx' ++ wM am dA hm') ce' sl' 1360 [(0, .ref b), (1, .ref (ad 100)), (2, .ref (am 300)), (3, .int x3)] [] from ?_) rfl
        refine tm_iinc (v := 6) X 3 [(3, .int (x3 + 6)), (0, .ref b), (1, .ref (ad 100)), (2, .ref (am 300))] dL_law_1360 rfl (by decide) (Nat.le_of_ble_eq_true rfl) rfl ?_
        refine tm_goto X 18 dL_law_1363 rfl ?_
        refine tm_lv X [1, 2, 3, 0] rfl ?_
        rw [← ha]
        exact fun _ => ih (j + 1) (x3 + 6) (by omega) (by omega) (by rw [ex3]; exact law_next j) ad' tt' hx' hm' hI' ce' sl' (by omega) (by omega)
      generalize hv : (xs x3.toNatClampNeg &&& 63) = v
      by_cases hs0 : v = (0 : Int32)
      · refine tm_swT X 200 (j := 0) hs0 dL_law_33 (by decide) (by decide) rfl rfl ?_
        exact lc_height X hSld I hAll.1 ad am tt hx hm hI ce sl (by omega) (by omega) x3 hi1 hi2 hi3 _ rfl _ rfl _ rfl hgo
      by_cases hs1 : v = (1 : Int32)
      · refine tm_swT X 243 (j := 1) hs1 dL_law_33 (by decide) (by decide) rfl rfl ?_
        exact lc_keepOff X hSld I hAll.2.1 ad am tt hx hm hI ce sl (by omega) (by omega) x3 hi1 hi2 _ rfl _ rfl hgo
      by_cases hs2 : v = (2 : Int32)
      · refine tm_swT X 292 (j := 2) hs2 dL_law_33 (by decide) (by decide) rfl rfl ?_
        exact lc_feed X hSld I hAll.2.2.1 ad am tt hx hm hI ce sl (by omega) (by omega) x3 hi1 hi2 hi3 hi4 hi5 _ rfl _ rfl _ rfl _ rfl _ rfl hgo
      by_cases hs3 : v = (3 : Int32)
      · refine tm_swT X 355 (j := 3) hs3 dL_law_33 (by decide) (by decide) rfl rfl ?_
        exact lc_law X hSld I hAll.2.2.2.1 ad am tt hx hm hI ce sl (by omega) (by omega) x3 hi1 _ rfl hgo
      by_cases hs4 : v = (4 : Int32)
      · refine tm_swT X 378 (j := 4) hs4 dL_law_33 (by decide) (by decide) rfl rfl ?_
        exact lc_casts X hSld I hAll.2.2.2.2.1 ad am tt hx hm hI ce sl (by omega) (by omega) x3 hi1 _ rfl hgo
      by_cases hs5 : v = (5 : Int32)
      · refine tm_swT X 401 (j := 5) hs5 dL_law_33 (by decide) (by decide) rfl rfl ?_
        exact lc_tour X hSld I hAll.2.2.2.2.2.1 ad am tt hx hm hI ce sl (by omega) (by omega) x3 hi1 _ rfl hgo
      by_cases hs6 : v = (6 : Int32)
      · refine tm_swT X 424 (j := 6) hs6 dL_law_33 (by decide) (by decide) rfl rfl ?_
        exact lc_glide X hSld I hAll.2.2.2.2.2.2.1 ad am tt hx hm hI ce sl (by omega) (by omega) x3 hi1 hi2 hi3 hi4 _ rfl _ rfl _ rfl _ rfl hgo
      by_cases hs7 : v = (7 : Int32)
      · refine tm_swT X 477 (j := 7) hs7 dL_law_33 (by decide) (by decide) rfl rfl ?_
        exact lc_best X hSld I hAll.2.2.2.2.2.2.2.1 ad am tt hx hm hI ce sl (by omega) (by omega) x3 hi1 _ rfl hgo
      by_cases hs8 : v = (8 : Int32)
      · refine tm_swT X 500 (j := 8) hs8 dL_law_33 (by decide) (by decide) rfl rfl ?_
        exact lc_evenest X hSld I hAll.2.2.2.2.2.2.2.2.1 ad am tt hx hm hI ce sl (by omega) (by omega) x3 hi1 _ rfl hgo
      by_cases hs9 : v = (9 : Int32)
      · refine tm_swT X 523 (j := 9) hs9 dL_law_33 (by decide) (by decide) rfl rfl ?_
        exact lc_free X hSld I hAll.2.2.2.2.2.2.2.2.2.1 ad am tt hx hm hI ce sl (by omega) (by omega) x3 hi1 _ rfl hgo
      by_cases hs10 : v = (10 : Int32)
      · refine tm_swT X 546 (j := 10) hs10 dL_law_33 (by decide) (by decide) rfl rfl ?_
        exact lc_wayTo X hSld I hAll.2.2.2.2.2.2.2.2.2.2.1 ad am tt hx hm hI ce sl (by omega) (by omega) x3 hi1 hi2 hi3 hi4 _ rfl _ rfl _ rfl _ rfl hgo
      by_cases hs11 : v = (11 : Int32)
      · refine tm_swT X 599 (j := 11) hs11 dL_law_33 (by decide) (by decide) rfl rfl ?_
        exact lc_toBear X hSld I hAll.2.2.2.2.2.2.2.2.2.2.2.1 ad am tt hx hm hI ce sl (by omega) (by omega) x3 hi1 _ rfl hgo
      by_cases hs12 : v = (12 : Int32)
      · refine tm_swT X 622 (j := 12) hs12 dL_law_33 (by decide) (by decide) rfl rfl ?_
        exact lc_toLower X hSld I hAll.2.2.2.2.2.2.2.2.2.2.2.2.1 ad am tt hx hm hI ce sl (by omega) (by omega) x3 hi1 _ rfl hgo
      by_cases hs13 : v = (13 : Int32)
      · refine tm_swT X 645 (j := 13) hs13 dL_law_33 (by decide) (by decide) rfl rfl ?_
        exact lc_anywhere X hSld I hAll.2.2.2.2.2.2.2.2.2.2.2.2.2.1 ad am tt hx hm hI ce sl (by omega) (by omega) x3 hi1 _ rfl hgo
      by_cases hs14 : v = (14 : Int32)
      · refine tm_swT X 668 (j := 14) hs14 dL_law_33 (by decide) (by decide) rfl rfl ?_
        exact lc_grind X hSld I hAll.2.2.2.2.2.2.2.2.2.2.2.2.2.2.1 ad am tt hx hm hI ce sl (by omega) (by omega) x3 hi1 _ rfl hgo
      by_cases hs15 : v = (15 : Int32)
      · refine tm_swT X 691 (j := 15) hs15 dL_law_33 (by decide) (by decide) rfl rfl ?_
        exact lc_spots X hSld I hAll.2.2.2.2.2.2.2.2.2.2.2.2.2.2.2.1 ad am tt hx hm hI ce sl (by omega) (by omega) x3 hi1 hi2 hi3 hi4 _ rfl _ rfl _ rfl _ rfl hgo
      by_cases hs16 : v = (16 : Int32)
      · refine tm_swT X 744 (j := 16) hs16 dL_law_33 (by decide) (by decide) rfl rfl ?_
        exact lc_figure X hSld I hAll.2.2.2.2.2.2.2.2.2.2.2.2.2.2.2.2.1 ad am tt hx hm hI ce sl (by omega) (by omega) x3 hgo
      by_cases hs17 : v = (17 : Int32)
      · refine tm_swT X 757 (j := 17) hs17 dL_law_33 (by decide) (by decide) rfl rfl ?_
        exact lc_tripods X hSld I hAll.2.2.2.2.2.2.2.2.2.2.2.2.2.2.2.2.2.1 ad am tt hx hm hI ce sl (by omega) (by omega) x3 hgo
      by_cases hs18 : v = (18 : Int32)
      · refine tm_swT X 770 (j := 18) hs18 dL_law_33 (by decide) (by decide) rfl rfl ?_
        exact lc_climb X hSld I hAll.2.2.2.2.2.2.2.2.2.2.2.2.2.2.2.2.2.2.1 ad am tt hx hm hI ce sl (by omega) (by omega) x3 hi1 hi2 _ rfl _ rfl hgo
      by_cases hs19 : v = (19 : Int32)
      · refine tm_swT X 803 (j := 19) hs19 dL_law_33 (by decide) (by decide) rfl rfl ?_
        exact lc_rolls X hSld I hAll.2.2.2.2.2.2.2.2.2.2.2.2.2.2.2.2.2.2.2.1 ad am tt hx hm hI ce sl (by omega) (by omega) x3 hi1 hi2 _ rfl _ rfl hgo
      by_cases hs20 : v = (20 : Int32)
      · refine tm_swT X 836 (j := 20) hs20 dL_law_33 (by decide) (by decide) rfl rfl ?_
        exact lc_pieces X hSld I hAll.2.2.2.2.2.2.2.2.2.2.2.2.2.2.2.2.2.2.2.2.1 ad am tt hx hm hI ce sl (by omega) (by omega) x3 hi1 hi2 hi3 _ rfl _ rfl _ rfl hgo
      by_cases hs21 : v = (21 : Int32)
      · refine tm_swT X 879 (j := 21) hs21 dL_law_33 (by decide) (by decide) rfl rfl ?_
        exact lc_rocks X hSld I hAll.2.2.2.2.2.2.2.2.2.2.2.2.2.2.2.2.2.2.2.2.2.1 ad am tt hx hm hI ce sl (by omega) (by omega) x3 hgo
      by_cases hs22 : v = (22 : Int32)
      · refine tm_swT X 892 (j := 22) hs22 dL_law_33 (by decide) (by decide) rfl rfl ?_
        exact lc_lean X hSld I hAll.2.2.2.2.2.2.2.2.2.2.2.2.2.2.2.2.2.2.2.2.2.2.1 ad am tt hx hm hI ce sl (by omega) (by omega) x3 hi1 _ rfl hgo
      by_cases hs23 : v = (23 : Int32)
      · refine tm_swT X 915 (j := 23) hs23 dL_law_33 (by decide) (by decide) rfl rfl ?_
        exact lc_splint X hSld I hAll.2.2.2.2.2.2.2.2.2.2.2.2.2.2.2.2.2.2.2.2.2.2.2.1 ad am tt hx hm hI ce sl (by omega) (by omega) x3 hi1 hi2 _ rfl _ rfl hgo
      by_cases hs24 : v = (24 : Int32)
      · refine tm_swT X 948 (j := 24) hs24 dL_law_33 (by decide) (by decide) rfl rfl ?_
        exact lc_turnedOver X hSld I hAll.2.2.2.2.2.2.2.2.2.2.2.2.2.2.2.2.2.2.2.2.2.2.2.2.1 ad am tt hx hm hI ce sl (by omega) (by omega) x3 hi1 _ rfl hgo
      by_cases hs25 : v = (25 : Int32)
      · refine tm_swT X 971 (j := 25) hs25 dL_law_33 (by decide) (by decide) rfl rfl ?_
        exact lc_castIs X hSld I hAll.2.2.2.2.2.2.2.2.2.2.2.2.2.2.2.2.2.2.2.2.2.2.2.2.2.1 ad am tt hx hm hI ce sl (by omega) (by omega) x3 hi1 hi2 _ rfl _ rfl hgo
      by_cases hs26 : v = (26 : Int32)
      · refine tm_swT X 1004 (j := 26) hs26 dL_law_33 (by decide) (by decide) rfl rfl ?_
        exact lc_heightOf X hSld I hAll.2.2.2.2.2.2.2.2.2.2.2.2.2.2.2.2.2.2.2.2.2.2.2.2.2.2.1 ad am tt hx hm hI ce sl (by omega) (by omega) x3 hi1 hi2 _ rfl _ rfl hgo
      by_cases hs27 : v = (27 : Int32)
      · refine tm_swT X 1037 (j := 27) hs27 dL_law_33 (by decide) (by decide) rfl rfl ?_
        exact lc_pools X hSld I hAll.2.2.2.2.2.2.2.2.2.2.2.2.2.2.2.2.2.2.2.2.2.2.2.2.2.2.2.1 ad am tt hx hm hI ce sl (by omega) (by omega) x3 hi1 hi2 _ rfl _ rfl hgo
      by_cases hs28 : v = (28 : Int32)
      · refine tm_swT X 1070 (j := 28) hs28 dL_law_33 (by decide) (by decide) rfl rfl ?_
        exact lc_belongs X hSld I hAll.2.2.2.2.2.2.2.2.2.2.2.2.2.2.2.2.2.2.2.2.2.2.2.2.2.2.2.2.1 ad am tt hx hm hI ce sl (by omega) (by omega) x3 hi1 hi2 hi3 _ rfl _ rfl _ rfl hgo
      by_cases hs29 : v = (29 : Int32)
      · refine tm_swT X 1113 (j := 29) hs29 dL_law_33 (by decide) (by decide) rfl rfl ?_
        exact lc_along X hSld I hAll.2.2.2.2.2.2.2.2.2.2.2.2.2.2.2.2.2.2.2.2.2.2.2.2.2.2.2.2.2.1 ad am tt hx hm hI ce sl (by omega) (by omega) x3 hi1 hi2 _ rfl _ rfl hgo
      by_cases hs30 : v = (30 : Int32)
      · refine tm_swT X 1146 (j := 30) hs30 dL_law_33 (by decide) (by decide) rfl rfl ?_
        exact lc_nights X hSld I hAll.2.2.2.2.2.2.2.2.2.2.2.2.2.2.2.2.2.2.2.2.2.2.2.2.2.2.2.2.2.2.1 ad am tt hx hm hI ce sl (by omega) (by omega) x3 hi1 hi2 _ rfl _ rfl hgo
      by_cases hs31 : v = (31 : Int32)
      · refine tm_swT X 1179 (j := 31) hs31 dL_law_33 (by decide) (by decide) rfl rfl ?_
        exact lc_tried X hSld I hAll.2.2.2.2.2.2.2.2.2.2.2.2.2.2.2.2.2.2.2.2.2.2.2.2.2.2.2.2.2.2.2.1 ad am tt hx hm hI ce sl (by omega) (by omega) x3 hi1 hi2 hi3 _ rfl _ rfl _ rfl hgo
      by_cases hs32 : v = (32 : Int32)
      · refine tm_swT X 1222 (j := 32) hs32 dL_law_33 (by decide) (by decide) rfl rfl ?_
        exact lc_even X hSld I hAll.2.2.2.2.2.2.2.2.2.2.2.2.2.2.2.2.2.2.2.2.2.2.2.2.2.2.2.2.2.2.2.2.1 ad am tt hx hm hI ce sl (by omega) (by omega) x3 hi1 hi2 hi3 _ rfl _ rfl _ rfl hgo
      by_cases hs33 : v = (33 : Int32)
      · refine tm_swT X 1265 (j := 33) hs33 dL_law_33 (by decide) (by decide) rfl rfl ?_
        exact lc_seed X hSld I hAll.2.2.2.2.2.2.2.2.2.2.2.2.2.2.2.2.2.2.2.2.2.2.2.2.2.2.2.2.2.2.2.2.2.1 ad am tt hx hm hI ce sl (by omega) (by omega) x3 hi1 _ rfl hgo
      by_cases hs34 : v = (34 : Int32)
      · refine tm_swT X 1288 (j := 34) hs34 dL_law_33 (by decide) (by decide) rfl rfl ?_
        exact lc_keep X hSld I hAll.2.2.2.2.2.2.2.2.2.2.2.2.2.2.2.2.2.2.2.2.2.2.2.2.2.2.2.2.2.2.2.2.2.2.1 ad am tt hx hm hI ce sl (by omega) (by omega) x3 hgo
      by_cases hs35 : v = (35 : Int32)
      · refine tm_swT X 1301 (j := 35) hs35 dL_law_33 (by decide) (by decide) rfl rfl ?_
        exact lc_undo X hSld I hAll.2.2.2.2.2.2.2.2.2.2.2.2.2.2.2.2.2.2.2.2.2.2.2.2.2.2.2.2.2.2.2.2.2.2.2.1 ad am tt hx hm hI ce sl (by omega) (by omega) x3 hgo
      by_cases hs36 : v = (36 : Int32)
      · refine tm_swT X 1314 (j := 36) hs36 dL_law_33 (by decide) (by decide) rfl rfl ?_
        exact lc_check X hSld I hAll.2.2.2.2.2.2.2.2.2.2.2.2.2.2.2.2.2.2.2.2.2.2.2.2.2.2.2.2.2.2.2.2.2.2.2.2.1 ad am tt hx hm hI ce sl (by omega) (by omega) x3 hi1 _ rfl hgo
      by_cases hs37 : v = (37 : Int32)
      · refine tm_swT X 1337 (j := 37) hs37 dL_law_33 (by decide) (by decide) rfl rfl ?_
        exact lc_count X hSld I hAll.2.2.2.2.2.2.2.2.2.2.2.2.2.2.2.2.2.2.2.2.2.2.2.2.2.2.2.2.2.2.2.2.2.2.2.2.2 ad am tt hx hm hI ce sl (by omega) (by omega) x3 hi1 _ rfl hgo
      refine tm_swd 1360 X dL_law_33 (by have := ne_toInt hs0 (n := 0) (by decide); have := ne_toInt hs1 (n := 1) (by decide); have := ne_toInt hs2 (n := 2) (by decide); have := ne_toInt hs3 (n := 3) (by decide); have := ne_toInt hs4 (n := 4) (by decide); have := ne_toInt hs5 (n := 5) (by decide); have := ne_toInt hs6 (n := 6) (by decide); have := ne_toInt hs7 (n := 7) (by decide); have := ne_toInt hs8 (n := 8) (by decide); have := ne_toInt hs9 (n := 9) (by decide); have := ne_toInt hs10 (n := 10) (by decide); have := ne_toInt hs11 (n := 11) (by decide); have := ne_toInt hs12 (n := 12) (by decide); have := ne_toInt hs13 (n := 13) (by decide); have := ne_toInt hs14 (n := 14) (by decide); have := ne_toInt hs15 (n := 15) (by decide); have := ne_toInt hs16 (n := 16) (by decide); have := ne_toInt hs17 (n := 17) (by decide); have := ne_toInt hs18 (n := 18) (by decide); have := ne_toInt hs19 (n := 19) (by decide); have := ne_toInt hs20 (n := 20) (by decide); have := ne_toInt hs21 (n := 21) (by decide); have := ne_toInt hs22 (n := 22) (by decide); have := ne_toInt hs23 (n := 23) (by decide); have := ne_toInt hs24 (n := 24) (by decide); have := ne_toInt hs25 (n := 25) (by decide); have := ne_toInt hs26 (n := 26) (by decide); have := ne_toInt hs27 (n := 27) (by decide); have := ne_toInt hs28 (n := 28) (by decide); have := ne_toInt hs29 (n := 29) (by decide); have := ne_toInt hs30 (n := 30) (by decide); have := ne_toInt hs31 (n := 31) (by decide); have := ne_toInt hs32 (n := 32) (by decide); have := ne_toInt hs33 (n := 33) (by decide); have := ne_toInt hs34 (n := 34) (by decide); have := ne_toInt hs35 (n := 35) (by decide); have := ne_toInt hs36 (n := 36) (by decide); have := ne_toInt hs37 (n := 37) (by decide); omega) rfl ?_
      exact fun _ => hgo ad tt hx hm ce sl rfl hI (by omega) (by omega)
