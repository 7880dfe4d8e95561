set_option maxRecDepth 100000
def St_height (I : TTy → Hp → Hp → Prop) : Prop := ∀ (tt : TTy) (hx hm : Hp) (a0 a1 a2 : Int32), I tt hx hm → ∃ r hx' hm', mX0_height hx a0 a1 a2 = some (r, hx') ∧ mX5_height hm a0 a1 a2 = some (r, hm') ∧ I tt hx' hm'
def St_keepOff (I : TTy → Hp → Hp → Prop) : Prop := ∀ (tt : TTy) (hx hm : Hp) (a0 a1 : Int32) (ha : a1 = 0 ∨ a1 = 1), I tt hx hm → ∃ r hx' hm', mX0_keepOff hx a0 a1 = some (r, hx') ∧ mX5_keepOff hm a0 a1 = some (r, hm') ∧ I tt hx' hm'
def St_feed (I : TTy → Hp → Hp → Prop) : Prop := ∀ (tt : TTy) (hx hm : Hp) (a0 a1 a2 a3 a4 : Int32), I tt hx hm → ∃ r hx' hm', mX0_feed hx a0 a1 a2 a3 a4 = some (r, hx') ∧ mX5_feed hm a0 a1 a2 a3 a4 = some (r, hm') ∧ I tt hx' hm'
def St_casts (I : TTy → Hp → Hp → Prop) : Prop := ∀ (tt : TTy) (hx hm : Hp) (a0 : Int32), I tt hx hm → ∃ r hx' hm', mX0_casts hx a0 = some (r, hx') ∧ mX5_casts hm a0 = some (r, hm') ∧ I tt hx' hm'
def St_tour (I : TTy → Hp → Hp → Prop) : Prop := ∀ (tt : TTy) (hx hm : Hp) (a0 : Int32), I tt hx hm → ∃ r hx' hm', mX0_tour hx a0 = some (r, hx') ∧ mX5_tour hm a0 = some (r, hm') ∧ I tt hx' hm'
def St_glide (I : TTy → Hp → Hp → Prop) : Prop := ∀ (tt : TTy) (hx hm : Hp) (a0 a1 a2 a3 : Int32), I tt hx hm → ∃ r hx' hm', mX0_glide hx a0 a1 a2 a3 = some (r, hx') ∧ mX5_glide hm a0 a1 a2 a3 = some (r, hm') ∧ I tt hx' hm'
def St_best (I : TTy → Hp → Hp → Prop) : Prop := ∀ (tt : TTy) (hx hm : Hp) (a0 : Int32), I tt hx hm → ∃ r hx' hm', mX0_best hx a0 = some (r, hx') ∧ mX5_best hm a0 = some (r, hm') ∧ I tt hx' hm'
def St_evenest (I : TTy → Hp → Hp → Prop) : Prop := ∀ (tt : TTy) (hx hm : Hp) (a0 : Int32), I tt hx hm → ∃ r, mX0_evenest hx a0 = some r ∧ mX5_evenest hm a0 = some r ∧ I tt hx hm
def St_free (I : TTy → Hp → Hp → Prop) : Prop := ∀ (tt : TTy) (hx hm : Hp) (a0 : Int32), I tt hx hm → ∃ r hx' hm', mX0_free hx a0 = some (r, hx') ∧ mX5_free hm a0 = some (r, hm') ∧ I tt hx' hm'
def St_wayTo (I : TTy → Hp → Hp → Prop) : Prop := ∀ (tt : TTy) (hx hm : Hp) (a0 a1 a2 a3 : Int32), I tt hx hm → ∃ r hx' hm', mX0_wayTo hx a0 a1 a2 a3 = some (r, hx') ∧ mX5_wayTo hm a0 a1 a2 a3 = some (r, hm') ∧ I tt hx' hm'
def St_toBear (I : TTy → Hp → Hp → Prop) : Prop := ∀ (tt : TTy) (hx hm : Hp) (a0 : Int32), I tt hx hm → ∃ r hx' hm', mX0_toBear hx a0 = some (r, hx') ∧ mX5_toBear hm a0 = some (r, hm') ∧ I tt hx' hm'
def St_toLower (I : TTy → Hp → Hp → Prop) : Prop := ∀ (tt : TTy) (hx hm : Hp) (a0 : Int32), I tt hx hm → ∃ r, mX0_toLower hx a0 = some r ∧ mX5_toLower hm a0 = some r ∧ I tt hx hm
def St_anywhere (I : TTy → Hp → Hp → Prop) : Prop := ∀ (tt : TTy) (hx hm : Hp) (a0 : Int32), I tt hx hm → ∃ r, mX0_anywhere hx a0 = some r ∧ mX5_anywhere hm a0 = some r ∧ I tt hx hm
def St_grind (I : TTy → Hp → Hp → Prop) : Prop := ∀ (tt : TTy) (hx hm : Hp) (a0 : Int32), I tt hx hm → ∃ r hx' hm', mX0_grind hx a0 = some (r, hx') ∧ mX5_grind hm a0 = some (r, hm') ∧ I tt hx' hm'
def St_spots (I : TTy → Hp → Hp → Prop) : Prop := ∀ (tt : TTy) (hx hm : Hp) (a0 a1 a2 a3 : Int32), I tt hx hm → ∃ r hx' hm', mX0_spots hx a0 a1 a2 a3 = some (r, hx') ∧ mX5_spots hm a0 a1 a2 a3 = some (r, hm') ∧ I tt hx' hm'
def St_figure (I : TTy → Hp → Hp → Prop) : Prop := ∀ (tt : TTy) (hx hm : Hp), I tt hx hm → ∃ r hx' hm', mX0_figure hx  = some (r, hx') ∧ mX5_figure hm  = some (r, hm') ∧ I tt hx' hm'
def St_tripods (I : TTy → Hp → Hp → Prop) : Prop := ∀ (tt : TTy) (hx hm : Hp), I tt hx hm → ∃ r hx' hm', mX0_tripods hx  = some (r, hx') ∧ mX5_tripods hm  = some (r, hm') ∧ I tt hx' hm'
def St_climb (I : TTy → Hp → Hp → Prop) : Prop := ∀ (tt : TTy) (hx hm : Hp) (a0 a1 : Int32), I tt hx hm → ∃ r hx' hm', mX0_climb hx a0 a1 = some (r, hx') ∧ mX5_climb hm a0 a1 = some (r, hm') ∧ I tt hx' hm'
def St_rolls (I : TTy → Hp → Hp → Prop) : Prop := ∀ (tt : TTy) (hx hm : Hp) (a0 a1 : Int32), I tt hx hm → ∃ r, mX0_rolls hx a0 a1 = some r ∧ mX5_rolls hm a0 a1 = some r ∧ I tt hx hm
def St_pieces (I : TTy → Hp → Hp → Prop) : Prop := ∀ (tt : TTy) (hx hm : Hp) (a0 a1 a2 : Int32), I tt hx hm → ∃ r hx' hm', mX0_pieces hx a0 a1 a2 = some (r, hx') ∧ mX5_pieces hm a0 a1 a2 = some (r, hm') ∧ I tt hx' hm'
def St_rocks (I : TTy → Hp → Hp → Prop) : Prop := ∀ (tt : TTy) (hx hm : Hp), I tt hx hm → ∃ r hx' hm', mX0_rocks hx  = some (r, hx') ∧ mX5_rocks hm  = some (r, hm') ∧ I tt hx' hm'
def St_lean (I : TTy → Hp → Hp → Prop) : Prop := ∀ (tt : TTy) (hx hm : Hp) (a0 : Int32), I tt hx hm → ∃ r hx', mX0_lean hx a0 = some (r, hx') ∧ mX5_lean hm a0 = some r ∧ I tt hx' hm
def St_splint (I : TTy → Hp → Hp → Prop) : Prop := ∀ (tt : TTy) (hx hm : Hp) (a0 a1 : Int32), I tt hx hm → ∃ r, mX0_splint hx a0 a1 = some r ∧ mX5_splint hm a0 a1 = some r ∧ I tt hx hm
def St_turnedOver (I : TTy → Hp → Hp → Prop) : Prop := ∀ (tt : TTy) (hx hm : Hp) (a0 : Int32), I tt hx hm → ∃ r hx', mX0_turnedOver hx a0 = some (r, hx') ∧ mX5_turnedOver hm a0 = some r ∧ I tt hx' hm
def St_castIs (I : TTy → Hp → Hp → Prop) : Prop := ∀ (tt : TTy) (hx hm : Hp) (a0 a1 : Int32), I tt hx hm → ∃ r, mX0_castIs hx a0 a1 = some r ∧ mX5_castIs hm a0 a1 = some r ∧ I tt hx hm
def St_heightOf (I : TTy → Hp → Hp → Prop) : Prop := ∀ (tt : TTy) (hx hm : Hp) (a0 a1 : Int32), I tt hx hm → ∃ r, mX0_heightOf hx a0 a1 = some r ∧ mX5_heightOf hm a0 a1 = some r ∧ I tt hx hm
def St_pools (I : TTy → Hp → Hp → Prop) : Prop := ∀ (tt : TTy) (hx hm : Hp) (a0 a1 : Int32), I tt hx hm → ∃ r hx' hm', mX0_pools hx a0 a1 = some (r, hx') ∧ mX5_pools hm a0 a1 = some (r, hm') ∧ I tt hx' hm'
def St_belongs (I : TTy → Hp → Hp → Prop) : Prop := ∀ (tt : TTy) (hx hm : Hp) (a0 a1 a2 : Int32), I tt hx hm → ∃ r hx' hm', mX0_belongs hx a0 a1 a2 = some (r, hx') ∧ mX5_belongs hm a0 a1 a2 = some (r, hm') ∧ I tt hx' hm'
def St_along (I : TTy → Hp → Hp → Prop) : Prop := ∀ (tt : TTy) (hx hm : Hp) (a0 a1 : Int32), I tt hx hm → ∃ r hm', mX0_along hx a0 a1 = some r ∧ mX5_along hm a0 a1 = some (r, hm') ∧ I tt hx hm'
def St_nights (I : TTy → Hp → Hp → Prop) : Prop := ∀ (tt : TTy) (hx hm : Hp) (a0 a1 : Int32), I tt hx hm → ∃ r hx' hm', mX0_nights tt hx a0 a1 = some (r, hx') ∧ mX5_nights hm a0 a1 = some (r, hm') ∧ I tt hx' hm'
def St_tried (I : TTy → Hp → Hp → Prop) : Prop := ∀ (tt : TTy) (hx hm : Hp) (a0 a1 a2 : Int32), I tt hx hm → ∃ r hx' hm', mX0_tried tt hx a0 a1 a2 = some (r, hx') ∧ mX5_tried hm a0 a1 a2 = some (r, hm') ∧ I tt hx' hm'
def St_even (I : TTy → Hp → Hp → Prop) : Prop := ∀ (tt : TTy) (hx hm : Hp) (a0 a1 a2 : Int32), I tt hx hm → ∃ r hx' hm', mX0_even tt hx a0 a1 a2 = some (r, hx') ∧ mX5_even hm a0 a1 a2 = some (r, hm') ∧ I tt hx' hm'
def St_seed (I : TTy → Hp → Hp → Prop) : Prop := ∀ (tt : TTy) (hx hm : Hp) (a0 : Int32), I tt hx hm → ∃ r hx' hm', mX0_seed hx a0 = some (r, hx') ∧ mX5_seed hm a0 = some (r, hm') ∧ I tt hx' hm'
def St_keep (I : TTy → Hp → Hp → Prop) : Prop := ∀ (tt : TTy) (hx hm : Hp), I tt hx hm → ∃ r hx' hm', mX0_keep hx  = some (r, hx') ∧ mX5_keep hm  = some (r, hm') ∧ I tt hx' hm'
def St_undo (I : TTy → Hp → Hp → Prop) : Prop := ∀ (tt : TTy) (hx hm : Hp), I tt hx hm → ∃ r hx' hm', mX0_undo hx  = some (r, hx') ∧ mX5_undo hm  = some (r, hm') ∧ I tt hx' hm'
def St_check (I : TTy → Hp → Hp → Prop) : Prop := ∀ (tt : TTy) (hx hm : Hp) (a0 : Int32), I tt hx hm → ∃ r hx' hm', mX0_check hx a0 = some (r, hx') ∧ mX5_check hm a0 = some (r, hm') ∧ I tt hx' hm'
def St_count (I : TTy → Hp → Hp → Prop) : Prop := ∀ (tt : TTy) (hx hm : Hp) (a0 : Int32), I tt hx hm → ∃ r, mX0_count hx a0 = some r ∧ mX5_count hm a0 = some r ∧ I tt hx hm
theorem tm_sld {G : Gty} {L : Nat} {xs : Nat → Int32} {b : Nat} (hSld : ∀ (w : va_W) (ce sl pc : Nat) (lv : List (Nat × Value)) (st : List Value) (i : Int32), vp_in i L → decode code pc = .ok (.iaload, 1) → G w ce sl (pc + 1) lv (.int (xs i.toNatClampNeg) :: st) → G w ce sl pc lv (.int i :: .ref b :: st)) {w : va_W} {ce sl pc : Nat} {lv : List (Nat × Value)} {st : List Value} {i v : Int32} (hi : vp_in i L) (hd : decode code pc = .ok (.iaload, 1)) (hv : xs i.toNatClampNeg = v) (k : TM G () (some ()) w ce sl (pc + 1) lv (.int v :: st)) : TM G () (some ()) w ce sl pc lv (.int i :: .ref b :: st) := fun e => hSld w ce sl pc lv st i hi hd (hv ▸ k e)
def St_law (I : TTy → Hp → Hp → Prop) : Prop := ∀ (tt : TTy) (hx hm : Hp) (a0 : Int32), I tt hx hm → ∃ r hm', mX5_law hm a0 = some (r, hm') ∧ ∀ (l : Launch) (D : va_G) (dA : Nat → ClassId) (ad : Nat → Nat), ∃ fr lo mc ms : Nat, fr ≤ 4000 ∧ lo ≤ 90000 ∧ mc ≤ 4000 ∧ ms ≤ 12000 ∧ CTE l yX0_law cX0_law 4 (some .int) D dA fr lo mc ms (wX ad dA tt hx) [.ref (ad 100), .int a0] (fun rv w' => rv = some (.int r) ∧ ∃ (ad' : Nat → Nat) (tt' : TTy) (hx' : Hp), w' = wX ad' dA tt' hx' ∧ ad' 100 = ad 100 ∧ I tt' hx' hm')
set_option maxHeartbeats 4000000 in
theorem lc_height {G : Gty} {l : Launch} {D : va_G} {dA : Nat → ClassId} {L : Nat} {xs : Nat → Int32} {b : Nat} (X : IsG G l code 4 "HighSpotsLaw" D dA 8192 100000 1200000 5502250) (hSld : ∀ (w : va_W) (ce sl pc : Nat) (lv : List (Nat × Value)) (st : List Value) (i : Int32), vp_in i L → decode code pc = .ok (.iaload, 1) → G w ce sl (pc + 1) lv (.int (xs i.toNatClampNeg) :: st) → G w ce sl pc lv (.int i :: .ref b :: st)) (I : TTy → Hp → Hp → Prop) (hS : St_height I) (ad am : Nat → Nat) (tt : TTy) (hx hm : Hp) (hI : I tt hx hm) (ce sl : Nat) (hce : ce + 4000 ≤ 1200000) (hsl : sl + 12000 ≤ 5502250) (x3 : Int32) (hi1 : vp_in (x3 + (1 : Int32)) L) (hi2 : vp_in (x3 + (2 : Int32)) L) (hi3 : vp_in (x3 + (3 : Int32)) L) (a0 : Int32) (he1 : xs (x3 + (1 : Int32)).toNatClampNeg = a0) (a1 : Int32) (he2 : xs (x3 + (2 : Int32)).toNatClampNeg = a1) (a2 : Int32) (he3 : xs (x3 + (3 : Int32)).toNatClampNeg = a2) (hK : ∀ (ad' : Nat → Nat) (tt' : TTy) (hx' hm' : Hp) (ce' sl' : Nat), ad' 100 = ad 100 → I tt' hx' hm' → ce' ≤ ce + 4000 → sl' ≤ sl + 12000 → G (wX ad' dA tt' hx' ++ wM am dA hm') ce' sl' 1360 [(0, .ref b), (1, .ref (ad 100)), (2, .ref (am 300)), (3, .int x3)] []) : TM G () (some ()) (wX ad dA tt hx ++ wM am dA hm) ce sl 200 [(0, .ref b), (1, .ref (ad 100)), (2, .ref (am 300)), (3, .int x3)] [] := by
  obtain ⟨r, hx', hm', e1, e2, e3⟩ := hS tt hx hm a0 a1 a2 hI
  refine tm_aload_n X 1 dL_law_200 rfl rfl ?_
  refine tm_aload_n X 0 dL_law_201 rfl rfl ?_
  refine tm_iload_n X 3 dL_law_202 rfl rfl ?_
  refine tm_iconst X (1 : Int32) dL_law_203 (by decide) ?_
  refine tm_iadd X dL_law_204 ?_
  refine tm_sld hSld hi1 dL_law_205 (he1) ?_
  refine tm_aload_n X 0 dL_law_206 rfl rfl ?_
  refine tm_iload_n X 3 dL_law_207 rfl rfl ?_
  refine tm_iconst X (2 : Int32) dL_law_208 (by decide) ?_
  refine tm_iadd X dL_law_209 ?_
  refine tm_sld hSld hi2 dL_law_210 (he2) ?_
  refine tm_aload_n X 0 dL_law_211 rfl rfl ?_
  refine tm_iload_n X 3 dL_law_212 rfl rfl ?_
  refine tm_iconst X (3 : Int32) dL_law_213 (by decide) ?_
  refine tm_iadd X dL_law_214 ?_
  refine tm_sld hSld hi3 dL_law_215 (he3) ?_
  refine tm_callVF (As := [.int a0, .int a1, .int a2]) (rest := []) (q0 := 0) X (ctX0_height l D ad dA tt hx a0 a1 a2 r hx' e1) (lw_V q304 q305 q306 q117 q307) cyX0_height rfl rfl rfl ⟨Nat.le_of_ble_eq_true rfl, Nat.le_of_ble_eq_true rfl⟩ (Nat.le_of_ble_eq_true rfl) dL_law_216 ⟨by omega, by omega⟩ rfl ?_
  refine tm_aload_n X 2 dL_law_219 rfl rfl ?_
  refine tm_aload_n X 0 dL_law_220 rfl rfl ?_
  refine tm_iload_n X 3 dL_law_221 rfl rfl ?_
  refine tm_iconst X (1 : Int32) dL_law_222 (by decide) ?_
  refine tm_iadd X dL_law_223 ?_
  refine tm_sld hSld hi1 dL_law_224 (he1) ?_
  refine tm_aload_n X 0 dL_law_225 rfl rfl ?_
  refine tm_iload_n X 3 dL_law_226 rfl rfl ?_
  refine tm_iconst X (2 : Int32) dL_law_227 (by decide) ?_
  refine tm_iadd X dL_law_228 ?_
  refine tm_sld hSld hi2 dL_law_229 (he2) ?_
  refine tm_aload_n X 0 dL_law_230 rfl rfl ?_
  refine tm_iload_n X 3 dL_law_231 rfl rfl ?_
  refine tm_iconst X (3 : Int32) dL_law_232 (by decide) ?_
  refine tm_iadd X dL_law_233 ?_
  refine tm_sld hSld hi3 dL_law_234 (he3) ?_
  refine tm_callVL (As := [.int a0, .int a1, .int a2]) (rest := [.int r]) (q0 := 0) X (ctX5_height l D am dA hm a0 a1 a2 r hm' e2) (lw_V q1359 q1360 q1361 q122 q1362) cyX5_height rfl rfl rfl ⟨Nat.le_of_ble_eq_true rfl, Nat.le_of_ble_eq_true rfl⟩ (Nat.le_of_ble_eq_true rfl) dL_law_235 ⟨by omega, by omega⟩ rfl ?_
  refine tm_ic_eqT X 1360 rfl dL_law_238 rfl ?_
  exact fun _ => hK ad tt hx' hm' _ _ rfl e3 (by omega) (by omega)
set_option maxHeartbeats 4000000 in
theorem lc_keepOff {G : Gty} {l : Launch} {D : va_G} {dA : Nat → ClassId} {L : Nat} {xs : Nat → Int32} {b : Nat} (X : IsG G l code 4 "HighSpotsLaw" D dA 8192 100000 1200000 5502250) (hSld : ∀ (w : va_W) (ce sl pc : Nat) (lv : List (Nat × Value)) (st : List Value) (i : Int32), vp_in i L → decode code pc = .ok (.iaload, 1) → G w ce sl (pc + 1) lv (.int (xs i.toNatClampNeg) :: st) → G w ce sl pc lv (.int i :: .ref b :: st)) (I : TTy → Hp → Hp → Prop) (hS : St_keepOff I) (ad am : Nat → Nat) (tt : TTy) (hx hm : Hp) (hI : I tt hx hm) (ce sl : Nat) (hce : ce + 4000 ≤ 1200000) (hsl : sl + 12000 ≤ 5502250) (x3 : Int32) (hi1 : vp_in (x3 + (1 : Int32)) L) (hi2 : vp_in (x3 + (2 : Int32)) L) (a0 : Int32) (he1 : xs (x3 + (1 : Int32)).toNatClampNeg = a0) (a1 : Int32) (he2 : xs (x3 + (2 : Int32)).toNatClampNeg = a1) (hK : ∀ (ad' : Nat → Nat) (tt' : TTy) (hx' hm' : Hp) (ce' sl' : Nat), ad' 100 = ad 100 → I tt' hx' hm' → ce' ≤ ce + 4000 → sl' ≤ sl + 12000 → G (wX ad' dA tt' hx' ++ wM am dA hm') ce' sl' 1360 [(0, .ref b), (1, .ref (ad 100)), (2, .ref (am 300)), (3, .int x3)] []) : TM G () (some ()) (wX ad dA tt hx ++ wM am dA hm) ce sl 243 [(0, .ref b), (1, .ref (ad 100)), (2, .ref (am 300)), (3, .int x3)] [] := by
  by_cases hv : a1 = 0
  · obtain ⟨r, hx', hm', e1, e2, e3⟩ := hS tt hx hm a0 0 (by exact Or.inl rfl) hI
    refine tm_aload_n X 1 dL_law_243 rfl rfl ?_
    refine tm_aload_n X 0 dL_law_244 rfl rfl ?_
    refine tm_iload_n X 3 dL_law_245 rfl rfl ?_
    refine tm_iconst X (1 : Int32) dL_law_246 (by decide) ?_
    refine tm_iadd X dL_law_247 ?_
    refine tm_sld hSld hi1 dL_law_248 (he1) ?_
    refine tm_aload_n X 0 dL_law_249 rfl rfl ?_
    refine tm_iload_n X 3 dL_law_250 rfl rfl ?_
    refine tm_iconst X (2 : Int32) dL_law_251 (by decide) ?_
    refine tm_iadd X dL_law_252 ?_
    refine tm_sld hSld hi2 dL_law_253 (he2) ?_
    refine tm_if_eqT X 261 hv dL_law_254 rfl ?_
    refine tm_iconst X (0 : Int32) dL_law_261 (by decide) ?_
    refine tm_callVF (As := [.int a0, .int (0 : Int32)]) (rest := []) (q0 := 0) X (ctX0_keepOff l D ad dA tt hx a0 (0 : Int32) r hx' e1) (lw_V q320 q321 q322 q117 q323) cyX0_keepOff rfl rfl rfl ⟨Nat.le_of_ble_eq_true rfl, Nat.le_of_ble_eq_true rfl⟩ (Nat.le_of_ble_eq_true rfl) dL_law_262 ⟨by omega, by omega⟩ rfl ?_
    refine tm_aload_n X 2 dL_law_265 rfl rfl ?_
    refine tm_aload_n X 0 dL_law_266 rfl rfl ?_
    refine tm_iload_n X 3 dL_law_267 rfl rfl ?_
    refine tm_iconst X (1 : Int32) dL_law_268 (by decide) ?_
    refine tm_iadd X dL_law_269 ?_
    refine tm_sld hSld hi1 dL_law_270 (he1) ?_
    refine tm_aload_n X 0 dL_law_271 rfl rfl ?_
    refine tm_iload_n X 3 dL_law_272 rfl rfl ?_
    refine tm_iconst X (2 : Int32) dL_law_273 (by decide) ?_
    refine tm_iadd X dL_law_274 ?_
    refine tm_sld hSld hi2 dL_law_275 (he2) ?_
    refine tm_if_eqT X 283 hv dL_law_276 rfl ?_
    refine tm_iconst X (0 : Int32) dL_law_283 (by decide) ?_
    refine tm_callVL (As := [.int a0, .int (0 : Int32)]) (rest := [.int r]) (q0 := 0) X (ctX5_keepOff l D am dA hm a0 (0 : Int32) r hm' e2) (lw_V q1376 q1377 q1378 q122 q1379) cyX5_keepOff rfl rfl rfl ⟨Nat.le_of_ble_eq_true rfl, Nat.le_of_ble_eq_true rfl⟩ (Nat.le_of_ble_eq_true rfl) dL_law_284 ⟨by omega, by omega⟩ rfl ?_
    refine tm_ic_eqT X 1360 rfl dL_law_287 rfl ?_
    exact fun _ => hK ad tt hx' hm' _ _ rfl e3 (by omega) (by omega)
  · obtain ⟨r, hx', hm', e1, e2, e3⟩ := hS tt hx hm a0 1 (by exact Or.inr rfl) hI
    refine tm_aload_n X 1 dL_law_243 rfl rfl ?_
    refine tm_aload_n X 0 dL_law_244 rfl rfl ?_
    refine tm_iload_n X 3 dL_law_245 rfl rfl ?_
    refine tm_iconst X (1 : Int32) dL_law_246 (by decide) ?_
    refine tm_iadd X dL_law_247 ?_
    refine tm_sld hSld hi1 dL_law_248 (he1) ?_
    refine tm_aload_n X 0 dL_law_249 rfl rfl ?_
    refine tm_iload_n X 3 dL_law_250 rfl rfl ?_
    refine tm_iconst X (2 : Int32) dL_law_251 (by decide) ?_
    refine tm_iadd X dL_law_252 ?_
    refine tm_sld hSld hi2 dL_law_253 (he2) ?_
    refine tm_if_eqF X 261 hv dL_law_254 rfl ?_
    refine tm_iconst X (1 : Int32) dL_law_257 (by decide) ?_
    refine tm_goto X 262 dL_law_258 rfl ?_
    refine tm_callVF (As := [.int a0, .int (1 : Int32)]) (rest := []) (q0 := 0) X (ctX0_keepOff l D ad dA tt hx a0 (1 : Int32) r hx' e1) (lw_V q320 q321 q322 q117 q323) cyX0_keepOff rfl rfl rfl ⟨Nat.le_of_ble_eq_true rfl, Nat.le_of_ble_eq_true rfl⟩ (Nat.le_of_ble_eq_true rfl) dL_law_262 ⟨by omega, by omega⟩ rfl ?_
    refine tm_aload_n X 2 dL_law_265 rfl rfl ?_
    refine tm_aload_n X 0 dL_law_266 rfl rfl ?_
    refine tm_iload_n X 3 dL_law_267 rfl rfl ?_
    refine tm_iconst X (1 : Int32) dL_law_268 (by decide) ?_
    refine tm_iadd X dL_law_269 ?_
    refine tm_sld hSld hi1 dL_law_270 (he1) ?_
    refine tm_aload_n X 0 dL_law_271 rfl rfl ?_
    refine tm_iload_n X 3 dL_law_272 rfl rfl ?_
    refine tm_iconst X (2 : Int32) dL_law_273 (by decide) ?_
    refine tm_iadd X dL_law_274 ?_
    refine tm_sld hSld hi2 dL_law_275 (he2) ?_
    refine tm_if_eqF X 283 hv dL_law_276 rfl ?_
    refine tm_iconst X (1 : Int32) dL_law_279 (by decide) ?_
    refine tm_goto X 284 dL_law_280 rfl ?_
    refine tm_callVL (As := [.int a0, .int (1 : Int32)]) (rest := [.int r]) (q0 := 0) X (ctX5_keepOff l D am dA hm a0 (1 : Int32) r hm' e2) (lw_V q1376 q1377 q1378 q122 q1379) cyX5_keepOff rfl rfl rfl ⟨Nat.le_of_ble_eq_true rfl, Nat.le_of_ble_eq_true rfl⟩ (Nat.le_of_ble_eq_true rfl) dL_law_284 ⟨by omega, by omega⟩ rfl ?_
    refine tm_ic_eqT X 1360 rfl dL_law_287 rfl ?_
    exact fun _ => hK ad tt hx' hm' _ _ rfl e3 (by omega) (by omega)
set_option maxHeartbeats 4000000 in
theorem lc_feed {G : Gty} {l : Launch} {D : va_G} {dA : Nat → ClassId} {L : Nat} {xs : Nat → Int32} {b : Nat} (X : IsG G l code 4 "HighSpotsLaw" D dA 8192 100000 1200000 5502250) (hSld : ∀ (w : va_W) (ce sl pc : Nat) (lv : List (Nat × Value)) (st : List Value) (i : Int32), vp_in i L → decode code pc = .ok (.iaload, 1) → G w ce sl (pc + 1) lv (.int (xs i.toNatClampNeg) :: st) → G w ce sl pc lv (.int i :: .ref b :: st)) (I : TTy → Hp → Hp → Prop) (hS : St_feed I) (ad am : Nat → Nat) (tt : TTy) (hx hm : Hp) (hI : I tt hx hm) (ce sl : Nat) (hce : ce + 4000 ≤ 1200000) (hsl : sl + 12000 ≤ 5502250) (x3 : Int32) (hi1 : vp_in (x3 + (1 : Int32)) L) (hi2 : vp_in (x3 + (2 : Int32)) L) (hi3 : vp_in (x3 + (3 : Int32)) L) (hi4 : vp_in (x3 + (4 : Int32)) L) (hi5 : vp_in (x3 + (5 : Int32)) L) (a0 : Int32) (he1 : xs (x3 + (1 : Int32)).toNatClampNeg = a0) (a1 : Int32) (he2 : xs (x3 + (2 : Int32)).toNatClampNeg = a1) (a2 : Int32) (he3 : xs (x3 + (3 : Int32)).toNatClampNeg = a2) (a3 : Int32) (he4 : xs (x3 + (4 : Int32)).toNatClampNeg = a3) (a4 : Int32) (he5 : xs (x3 + (5 : Int32)).toNatClampNeg = a4) (hK : ∀ (ad' : Nat → Nat) (tt' : TTy) (hx' hm' : Hp) (ce' sl' : Nat), ad' 100 = ad 100 → I tt' hx' hm' → ce' ≤ ce + 4000 → sl' ≤ sl + 12000 → G (wX ad' dA tt' hx' ++ wM am dA hm') ce' sl' 1360 [(0, .ref b), (1, .ref (ad 100)), (2, .ref (am 300)), (3, .int x3)] []) : TM G () (some ()) (wX ad dA tt hx ++ wM am dA hm) ce sl 292 [(0, .ref b), (1, .ref (ad 100)), (2, .ref (am 300)), (3, .int x3)] [] := by
  obtain ⟨r, hx', hm', e1, e2, e3⟩ := hS tt hx hm a0 a1 a2 a3 a4 hI
  refine tm_aload_n X 1 dL_law_292 rfl rfl ?_
  refine tm_aload_n X 0 dL_law_293 rfl rfl ?_
  refine tm_iload_n X 3 dL_law_294 rfl rfl ?_
  refine tm_iconst X (1 : Int32) dL_law_295 (by decide) ?_
  refine tm_iadd X dL_law_296 ?_
  refine tm_sld hSld hi1 dL_law_297 (he1) ?_
  refine tm_aload_n X 0 dL_law_298 rfl rfl ?_
  refine tm_iload_n X 3 dL_law_299 rfl rfl ?_
  refine tm_iconst X (2 : Int32) dL_law_300 (by decide) ?_
  refine tm_iadd X dL_law_301 ?_
  refine tm_sld hSld hi2 dL_law_302 (he2) ?_
  refine tm_aload_n X 0 dL_law_303 rfl rfl ?_
  refine tm_iload_n X 3 dL_law_304 rfl rfl ?_
  refine tm_iconst X (3 : Int32) dL_law_305 (by decide) ?_
  refine tm_iadd X dL_law_306 ?_
  refine tm_sld hSld hi3 dL_law_307 (he3) ?_
  refine tm_aload_n X 0 dL_law_308 rfl rfl ?_
  refine tm_iload_n X 3 dL_law_309 rfl rfl ?_
  refine tm_iconst X (4 : Int32) dL_law_310 (by decide) ?_
  refine tm_iadd X dL_law_311 ?_
  refine tm_sld hSld hi4 dL_law_312 (he4) ?_
  refine tm_aload_n X 0 dL_law_313 rfl rfl ?_
  refine tm_iload_n X 3 dL_law_314 rfl rfl ?_
  refine tm_iconst X (5 : Int32) dL_law_315 (by decide) ?_
  refine tm_iadd X dL_law_316 ?_
  refine tm_sld hSld hi5 dL_law_317 (he5) ?_
  refine tm_callVF (As := [.int a0, .int a1, .int a2, .int a3, .int a4]) (rest := []) (q0 := 0) X (ctX0_feed l D ad dA tt hx a0 a1 a2 a3 a4 r hx' e1) (lw_V q324 q325 q326 q117 q327) cyX0_feed rfl rfl rfl ⟨Nat.le_of_ble_eq_true rfl, Nat.le_of_ble_eq_true rfl⟩ (Nat.le_of_ble_eq_true rfl) dL_law_318 ⟨by omega, by omega⟩ rfl ?_
  refine tm_aload_n X 2 dL_law_321 rfl rfl ?_
  refine tm_aload_n X 0 dL_law_322 rfl rfl ?_
  refine tm_iload_n X 3 dL_law_323 rfl rfl ?_
  refine tm_iconst X (1 : Int32) dL_law_324 (by decide) ?_
  refine tm_iadd X dL_law_325 ?_
  refine tm_sld hSld hi1 dL_law_326 (he1) ?_
  refine tm_aload_n X 0 dL_law_327 rfl rfl ?_
  refine tm_iload_n X 3 dL_law_328 rfl rfl ?_
  refine tm_iconst X (2 : Int32) dL_law_329 (by decide) ?_
  refine tm_iadd X dL_law_330 ?_
  refine tm_sld hSld hi2 dL_law_331 (he2) ?_
  refine tm_aload_n X 0 dL_law_332 rfl rfl ?_
  refine tm_iload_n X 3 dL_law_333 rfl rfl ?_
  refine tm_iconst X (3 : Int32) dL_law_334 (by decide) ?_
  refine tm_iadd X dL_law_335 ?_
  refine tm_sld hSld hi3 dL_law_336 (he3) ?_
  refine tm_aload_n X 0 dL_law_337 rfl rfl ?_
  refine tm_iload_n X 3 dL_law_338 rfl rfl ?_
  refine tm_iconst X (4 : Int32) dL_law_339 (by decide) ?_
  refine tm_iadd X dL_law_340 ?_
  refine tm_sld hSld hi4 dL_law_341 (he4) ?_
  refine tm_aload_n X 0 dL_law_342 rfl rfl ?_
  refine tm_iload_n X 3 dL_law_343 rfl rfl ?_
  refine tm_iconst X (5 : Int32) dL_law_344 (by decide) ?_
  refine tm_iadd X dL_law_345 ?_
  refine tm_sld hSld hi5 dL_law_346 (he5) ?_
  refine tm_callVL (As := [.int a0, .int a1, .int a2, .int a3, .int a4]) (rest := [.int r]) (q0 := 0) X (ctX5_feed l D am dA hm a0 a1 a2 a3 a4 r hm' e2) (lw_V q1380 q1381 q1382 q122 q1383) cyX5_feed rfl rfl rfl ⟨Nat.le_of_ble_eq_true rfl, Nat.le_of_ble_eq_true rfl⟩ (Nat.le_of_ble_eq_true rfl) dL_law_347 ⟨by omega, by omega⟩ rfl ?_
  refine tm_ic_eqT X 1360 rfl dL_law_350 rfl ?_
  exact fun _ => hK ad tt hx' hm' _ _ rfl e3 (by omega) (by omega)
theorem cyX0_law : Callee yX0_law 1 := by unfold Callee; decide +kernel
set_option maxHeartbeats 4000000 in
theorem lc_law {G : Gty} {l : Launch} {D : va_G} {dA : Nat → ClassId} {L : Nat} {xs : Nat → Int32} {b : Nat} (X : IsG G l code 4 "HighSpotsLaw" D dA 8192 100000 1200000 5502250) (hSld : ∀ (w : va_W) (ce sl pc : Nat) (lv : List (Nat × Value)) (st : List Value) (i : Int32), vp_in i L → decode code pc = .ok (.iaload, 1) → G w ce sl (pc + 1) lv (.int (xs i.toNatClampNeg) :: st) → G w ce sl pc lv (.int i :: .ref b :: st)) (I : TTy → Hp → Hp → Prop) (hS : St_law I) (ad am : Nat → Nat) (tt : TTy) (hx hm : Hp) (hI : I tt hx hm) (ce sl : Nat) (hce : ce + 4000 ≤ 1200000) (hsl : sl + 12000 ≤ 5502250) (x3 : Int32) (hi1 : vp_in (x3 + (1 : Int32)) L) (a0 : Int32) (he1 : xs (x3 + (1 : Int32)).toNatClampNeg = a0) (hK : ∀ (ad' : Nat → Nat) (tt' : TTy) (hx' hm' : Hp) (ce' sl' : Nat), ad' 100 = ad 100 → I tt' hx' hm' → ce' ≤ ce + 4000 → sl' ≤ sl + 12000 → G (wX ad' dA tt' hx' ++ wM am dA hm') ce' sl' 1360 [(0, .ref b), (1, .ref (ad 100)), (2, .ref (am 300)), (3, .int x3)] []) : TM G () (some ()) (wX ad dA tt hx ++ wM am dA hm) ce sl 355 [(0, .ref b), (1, .ref (ad 100)), (2, .ref (am 300)), (3, .int x3)] [] := by
  obtain ⟨r, hm', e2, hC9⟩ := hS tt hx hm a0 hI
  obtain ⟨fr, lo, mc, ms, hfr, hlo, hmc, hms, hC⟩ := hC9 l D dA ad
  refine tm_aload_n X 1 dL_law_355 rfl rfl ?_
  refine tm_aload_n X 0 dL_law_356 rfl rfl ?_
  refine tm_iload_n X 3 dL_law_357 rfl rfl ?_
  refine tm_iconst X (1 : Int32) dL_law_358 (by decide) ?_
  refine tm_iadd X dL_law_359 ?_
  refine tm_sld hSld hi1 dL_law_360 (he1) ?_
  refine tm_callVFE (As := [.int a0]) (rest := []) (q0 := 0) X hC (lw_V q332 q333 q334 q117 q335) cyX0_law rfl rfl rfl ⟨by omega, by omega⟩ (Nat.le_of_ble_eq_true rfl) dL_law_361 ⟨by omega, by omega⟩ rfl ?_
  rintro rv wc' ⟨rfl, ad', tt', hx', rfl, ha', e3⟩
  refine tm_same (w' := wX ad' dA tt' hx' ++ wM am dA hm) (st' := [.int r]) rfl rfl rfl rfl rfl ?_
  refine tm_aload_n X 2 dL_law_364 rfl rfl ?_
  refine tm_aload_n X 0 dL_law_365 rfl rfl ?_
  refine tm_iload_n X 3 dL_law_366 rfl rfl ?_
  refine tm_iconst X (1 : Int32) dL_law_367 (by decide) ?_
  refine tm_iadd X dL_law_368 ?_
  refine tm_sld hSld hi1 dL_law_369 (he1) ?_
  refine tm_callVL (As := [.int a0]) (rest := [.int r]) (q0 := 0) X (ctX5_law l D am dA hm a0 r hm' e2) (lw_V q1388 q1389 q1390 q122 q1391) cyX5_law rfl rfl rfl ⟨Nat.le_of_ble_eq_true rfl, Nat.le_of_ble_eq_true rfl⟩ (Nat.le_of_ble_eq_true rfl) dL_law_370 ⟨by omega, by omega⟩ rfl ?_
  refine tm_ic_eqT X 1360 rfl dL_law_373 rfl ?_
  exact fun _ => hK ad' tt' hx' hm' _ _ ha' e3 (by omega) (by omega)
set_option maxHeartbeats 4000000 in
theorem lc_casts {G : Gty} {l : Launch} {D : va_G} {dA : Nat → ClassId} {L : Nat} {xs : Nat → Int32} {b : Nat} (X : IsG G l code 4 "HighSpotsLaw" D dA 8192 100000 1200000 5502250) (hSld : ∀ (w : va_W) (ce sl pc : Nat) (lv : List (Nat × Value)) (st : List Value) (i : Int32), vp_in i L → decode code pc = .ok (.iaload, 1) → G w ce sl (pc + 1) lv (.int (xs i.toNatClampNeg) :: st) → G w ce sl pc lv (.int i :: .ref b :: st)) (I : TTy → Hp → Hp → Prop) (hS : St_casts I) (ad am : Nat → Nat) (tt : TTy) (hx hm : Hp) (hI : I tt hx hm) (ce sl : Nat) (hce : ce + 4000 ≤ 1200000) (hsl : sl + 12000 ≤ 5502250) (x3 : Int32) (hi1 : vp_in (x3 + (1 : Int32)) L) (a0 : Int32) (he1 : xs (x3 + (1 : Int32)).toNatClampNeg = a0) (hK : ∀ (ad' : Nat → Nat) (tt' : TTy) (hx' hm' : Hp) (ce' sl' : Nat), ad' 100 = ad 100 → I tt' hx' hm' → ce' ≤ ce + 4000 → sl' ≤ sl + 12000 → G (wX ad' dA tt' hx' ++ wM am dA hm') ce' sl' 1360 [(0, .ref b), (1, .ref (ad 100)), (2, .ref (am 300)), (3, .int x3)] []) : TM G () (some ()) (wX ad dA tt hx ++ wM am dA hm) ce sl 378 [(0, .ref b), (1, .ref (ad 100)), (2, .ref (am 300)), (3, .int x3)] [] := by
  obtain ⟨r, hx', hm', e1, e2, e3⟩ := hS tt hx hm a0 hI
  refine tm_aload_n X 1 dL_law_378 rfl rfl ?_
  refine tm_aload_n X 0 dL_law_379 rfl rfl ?_
  refine tm_iload_n X 3 dL_law_380 rfl rfl ?_
  refine tm_iconst X (1 : Int32) dL_law_381 (by decide) ?_
  refine tm_iadd X dL_law_382 ?_
  refine tm_sld hSld hi1 dL_law_383 (he1) ?_
  refine tm_callVF (As := [.int a0]) (rest := []) (q0 := 0) X (ctX0_casts l D ad dA tt hx a0 r hx' e1) (lw_V q601 q602 q603 q117 q604) cyX0_casts rfl rfl rfl ⟨Nat.le_of_ble_eq_true rfl, Nat.le_of_ble_eq_true rfl⟩ (Nat.le_of_ble_eq_true rfl) dL_law_384 ⟨by omega, by omega⟩ rfl ?_
  refine tm_widen (ce' := ce + 4) (sl' := sl + 107) X (by omega) (by omega) ?_
  refine tm_aload_n X 2 dL_law_387 rfl rfl ?_
  refine tm_aload_n X 0 dL_law_388 rfl rfl ?_
  refine tm_iload_n X 3 dL_law_389 rfl rfl ?_
  refine tm_iconst X (1 : Int32) dL_law_390 (by decide) ?_
  refine tm_iadd X dL_law_391 ?_
  refine tm_sld hSld hi1 dL_law_392 (he1) ?_
  refine tm_callVL (As := [.int a0]) (rest := [.int r]) (q0 := 0) X (ctX5_casts l D am dA hm a0 r hm' e2) (lw_V q1475 q1476 q1477 q122 q1478) cyX5_casts rfl rfl rfl ⟨Nat.le_of_ble_eq_true rfl, Nat.le_of_ble_eq_true rfl⟩ (Nat.le_of_ble_eq_true rfl) dL_law_393 ⟨by omega, by omega⟩ rfl ?_
  refine tm_ic_eqT X 1360 rfl dL_law_396 rfl ?_
  exact fun _ => hK ad tt hx' hm' _ _ rfl e3 (by omega) (by omega)
set_option maxHeartbeats 4000000 in
theorem lc_tour {G : Gty} {l : Launch} {D : va_G} {dA : Nat → ClassId} {L : Nat} {xs : Nat → Int32} {b : Nat} (X : IsG G l code 4 "HighSpotsLaw" D dA 8192 100000 1200000 5502250) (hSld : ∀ (w : va_W) (ce sl pc : Nat) (lv : List (Nat × Value)) (st : List Value) (i : Int32), vp_in i L → decode code pc = .ok (.iaload, 1) → G w ce sl (pc + 1) lv (.int (xs i.toNatClampNeg) :: st) → G w ce sl pc lv (.int i :: .ref b :: st)) (I : TTy → Hp → Hp → Prop) (hS : St_tour I) (ad am : Nat → Nat) (tt : TTy) (hx hm : Hp) (hI : I tt hx hm) (ce sl : Nat) (hce : ce + 4000 ≤ 1200000) (hsl : sl + 12000 ≤ 5502250) (x3 : Int32) (hi1 : vp_in (x3 + (1 : Int32)) L) (a0 : Int32) (he1 : xs (x3 + (1 : Int32)).toNatClampNeg = a0) (hK : ∀ (ad' : Nat → Nat) (tt' : TTy) (hx' hm' : Hp) (ce' sl' : Nat), ad' 100 = ad 100 → I tt' hx' hm' → ce' ≤ ce + 4000 → sl' ≤ sl + 12000 → G (wX ad' dA tt' hx' ++ wM am dA hm') ce' sl' 1360 [(0, .ref b), (1, .ref (ad 100)), (2, .ref (am 300)), (3, .int x3)] []) : TM G () (some ()) (wX ad dA tt hx ++ wM am dA hm) ce sl 401 [(0, .ref b), (1, .ref (ad 100)), (2, .ref (am 300)), (3, .int x3)] [] := by
  obtain ⟨r, hx', hm', e1, e2, e3⟩ := hS tt hx hm a0 hI
  refine tm_aload_n X 1 dL_law_401 rfl rfl ?_
  refine tm_aload_n X 0 dL_law_402 rfl rfl ?_
  refine tm_iload_n X 3 dL_law_403 rfl rfl ?_
  refine tm_iconst X (1 : Int32) dL_law_404 (by decide) ?_
  refine tm_iadd X dL_law_405 ?_
  refine tm_sld hSld hi1 dL_law_406 (he1) ?_
  refine tm_callVF (As := [.int a0]) (rest := []) (q0 := 0) X (ctX0_tour l D ad dA tt hx a0 r hx' e1) (lw_V q724 q725 q726 q117 q727) cyX0_tour rfl rfl rfl ⟨Nat.le_of_ble_eq_true rfl, Nat.le_of_ble_eq_true rfl⟩ (Nat.le_of_ble_eq_true rfl) dL_law_407 ⟨by omega, by omega⟩ rfl ?_
  refine tm_widen (ce' := ce + 2) (sl' := sl + 57) X (by omega) (by omega) ?_
  refine tm_aload_n X 2 dL_law_410 rfl rfl ?_
  refine tm_aload_n X 0 dL_law_411 rfl rfl ?_
  refine tm_iload_n X 3 dL_law_412 rfl rfl ?_
  refine tm_iconst X (1 : Int32) dL_law_413 (by decide) ?_
  refine tm_iadd X dL_law_414 ?_
  refine tm_sld hSld hi1 dL_law_415 (he1) ?_
  refine tm_callVL (As := [.int a0]) (rest := [.int r]) (q0 := 0) X (ctX5_tour l D am dA hm a0 r hm' e2) (lw_V q1487 q1488 q1489 q122 q1490) cyX5_tour rfl rfl rfl ⟨Nat.le_of_ble_eq_true rfl, Nat.le_of_ble_eq_true rfl⟩ (Nat.le_of_ble_eq_true rfl) dL_law_416 ⟨by omega, by omega⟩ rfl ?_
  refine tm_ic_eqT X 1360 rfl dL_law_419 rfl ?_
  exact fun _ => hK ad tt hx' hm' _ _ rfl e3 (by omega) (by omega)
set_option maxHeartbeats 4000000 in
theorem lc_glide {G : Gty} {l : Launch} {D : va_G} {dA : Nat → ClassId} {L : Nat} {xs : Nat → Int32} {b : Nat} (X : IsG G l code 4 "HighSpotsLaw" D dA 8192 100000 1200000 5502250) (hSld : ∀ (w : va_W) (ce sl pc : Nat) (lv : List (Nat × Value)) (st : List Value) (i : Int32), vp_in i L → decode code pc = .ok (.iaload, 1) → G w ce sl (pc + 1) lv (.int (xs i.toNatClampNeg) :: st) → G w ce sl pc lv (.int i :: .ref b :: st)) (I : TTy → Hp → Hp → Prop) (hS : St_glide I) (ad am : Nat → Nat) (tt : TTy) (hx hm : Hp) (hI : I tt hx hm) (ce sl : Nat) (hce : ce + 4000 ≤ 1200000) (hsl : sl + 12000 ≤ 5502250) (x3 : Int32) (hi1 : vp_in (x3 + (1 : Int32)) L) (hi2 : vp_in (x3 + (2 : Int32)) L) (hi3 : vp_in (x3 + (3 : Int32)) L) (hi4 : vp_in (x3 + (4 : Int32)) L) (a0 : Int32) (he1 : xs (x3 + (1 : Int32)).toNatClampNeg = a0) (a1 : Int32) (he2 : xs (x3 + (2 : Int32)).toNatClampNeg = a1) (a2 : Int32) (he3 : xs (x3 + (3 : Int32)).toNatClampNeg = a2) (a3 : Int32) (he4 : xs (x3 + (4 : Int32)).toNatClampNeg = a3) (hK : ∀ (ad' : Nat → Nat) (tt' : TTy) (hx' hm' : Hp) (ce' sl' : Nat), ad' 100 = ad 100 → I tt' hx' hm' → ce' ≤ ce + 4000 → sl' ≤ sl + 12000 → G (wX ad' dA tt' hx' ++ wM am dA hm') ce' sl' 1360 [(0, .ref b), (1, .ref (ad 100)), (2, .ref (am 300)), (3, .int x3)] []) : TM G () (some ()) (wX ad dA tt hx ++ wM am dA hm) ce sl 424 [(0, .ref b), (1, .ref (ad 100)), (2, .ref (am 300)), (3, .int x3)] [] := by
  obtain ⟨r, hx', hm', e1, e2, e3⟩ := hS tt hx hm a0 a1 a2 a3 hI
  refine tm_aload_n X 1 dL_law_424 rfl rfl ?_
  refine tm_aload_n X 0 dL_law_425 rfl rfl ?_
  refine tm_iload_n X 3 dL_law_426 rfl rfl ?_
  refine tm_iconst X (1 : Int32) dL_law_427 (by decide) ?_
  refine tm_iadd X dL_law_428 ?_
  refine tm_sld hSld hi1 dL_law_429 (he1) ?_
  refine tm_aload_n X 0 dL_law_430 rfl rfl ?_
  refine tm_iload_n X 3 dL_law_431 rfl rfl ?_
  refine tm_iconst X (2 : Int32) dL_law_432 (by decide) ?_
  refine tm_iadd X dL_law_433 ?_
  refine tm_sld hSld hi2 dL_law_434 (he2) ?_
  refine tm_aload_n X 0 dL_law_435 rfl rfl ?_
  refine tm_iload_n X 3 dL_law_436 rfl rfl ?_
  refine tm_iconst X (3 : Int32) dL_law_437 (by decide) ?_
  refine tm_iadd X dL_law_438 ?_
  refine tm_sld hSld hi3 dL_law_439 (he3) ?_
  refine tm_aload_n X 0 dL_law_440 rfl rfl ?_
  refine tm_iload_n X 3 dL_law_441 rfl rfl ?_
  refine tm_iconst X (4 : Int32) dL_law_442 (by decide) ?_
  refine tm_iadd X dL_law_443 ?_
  refine tm_sld hSld hi4 dL_law_444 (he4) ?_
  refine tm_callVF (As := [.int a0, .int a1, .int a2, .int a3]) (rest := []) (q0 := 0) X (ctX0_glide l D ad dA tt hx a0 a1 a2 a3 r hx' e1) (lw_V q810 q811 q812 q117 q813) cyX0_glide rfl rfl rfl ⟨Nat.le_of_ble_eq_true rfl, Nat.le_of_ble_eq_true rfl⟩ (Nat.le_of_ble_eq_true rfl) dL_law_445 ⟨by omega, by omega⟩ rfl ?_
  refine tm_aload_n X 2 dL_law_448 rfl rfl ?_
  refine tm_aload_n X 0 dL_law_449 rfl rfl ?_
  refine tm_iload_n X 3 dL_law_450 rfl rfl ?_
  refine tm_iconst X (1 : Int32) dL_law_451 (by decide) ?_
  refine tm_iadd X dL_law_452 ?_
  refine tm_sld hSld hi1 dL_law_453 (he1) ?_
  refine tm_aload_n X 0 dL_law_454 rfl rfl ?_
  refine tm_iload_n X 3 dL_law_455 rfl rfl ?_
  refine tm_iconst X (2 : Int32) dL_law_456 (by decide) ?_
  refine tm_iadd X dL_law_457 ?_
  refine tm_sld hSld hi2 dL_law_458 (he2) ?_
  refine tm_aload_n X 0 dL_law_459 rfl rfl ?_
  refine tm_iload_n X 3 dL_law_460 rfl rfl ?_
  refine tm_iconst X (3 : Int32) dL_law_461 (by decide) ?_
  refine tm_iadd X dL_law_462 ?_
  refine tm_sld hSld hi3 dL_law_463 (he3) ?_
  refine tm_aload_n X 0 dL_law_464 rfl rfl ?_
  refine tm_iload_n X 3 dL_law_465 rfl rfl ?_
  refine tm_iconst X (4 : Int32) dL_law_466 (by decide) ?_
  refine tm_iadd X dL_law_467 ?_
  refine tm_sld hSld hi4 dL_law_468 (he4) ?_
  refine tm_callVL (As := [.int a0, .int a1, .int a2, .int a3]) (rest := [.int r]) (q0 := 0) X (ctX5_glide l D am dA hm a0 a1 a2 a3 r hm' e2) (lw_V q1510 q1511 q1512 q122 q1513) cyX5_glide rfl rfl rfl ⟨Nat.le_of_ble_eq_true rfl, Nat.le_of_ble_eq_true rfl⟩ (Nat.le_of_ble_eq_true rfl) dL_law_469 ⟨by omega, by omega⟩ rfl ?_
  refine tm_ic_eqT X 1360 rfl dL_law_472 rfl ?_
  exact fun _ => hK ad tt hx' hm' _ _ rfl e3 (by omega) (by omega)
set_option maxHeartbeats 4000000 in
theorem lc_best {G : Gty} {l : Launch} {D : va_G} {dA : Nat → ClassId} {L : Nat} {xs : Nat → Int32} {b : Nat} (X : IsG G l code 4 "HighSpotsLaw" D dA 8192 100000 1200000 5502250) (hSld : ∀ (w : va_W) (ce sl pc : Nat) (lv : List (Nat × Value)) (st : List Value) (i : Int32), vp_in i L → decode code pc = .ok (.iaload, 1) → G w ce sl (pc + 1) lv (.int (xs i.toNatClampNeg) :: st) → G w ce sl pc lv (.int i :: .ref b :: st)) (I : TTy → Hp → Hp → Prop) (hS : St_best I) (ad am : Nat → Nat) (tt : TTy) (hx hm : Hp) (hI : I tt hx hm) (ce sl : Nat) (hce : ce + 4000 ≤ 1200000) (hsl : sl + 12000 ≤ 5502250) (x3 : Int32) (hi1 : vp_in (x3 + (1 : Int32)) L) (a0 : Int32) (he1 : xs (x3 + (1 : Int32)).toNatClampNeg = a0) (hK : ∀ (ad' : Nat → Nat) (tt' : TTy) (hx' hm' : Hp) (ce' sl' : Nat), ad' 100 = ad 100 → I tt' hx' hm' → ce' ≤ ce + 4000 → sl' ≤ sl + 12000 → G (wX ad' dA tt' hx' ++ wM am dA hm') ce' sl' 1360 [(0, .ref b), (1, .ref (ad 100)), (2, .ref (am 300)), (3, .int x3)] []) : TM G () (some ()) (wX ad dA tt hx ++ wM am dA hm) ce sl 477 [(0, .ref b), (1, .ref (ad 100)), (2, .ref (am 300)), (3, .int x3)] [] := by
  obtain ⟨r, hx', hm', e1, e2, e3⟩ := hS tt hx hm a0 hI
  refine tm_aload_n X 1 dL_law_477 rfl rfl ?_
  refine tm_aload_n X 0 dL_law_478 rfl rfl ?_
  refine tm_iload_n X 3 dL_law_479 rfl rfl ?_
  refine tm_iconst X (1 : Int32) dL_law_480 (by decide) ?_
  refine tm_iadd X dL_law_481 ?_
  refine tm_sld hSld hi1 dL_law_482 (he1) ?_
  refine tm_callVF (As := [.int a0]) (rest := []) (q0 := 0) X (ctX0_best l D ad dA tt hx a0 r hx' e1) (lw_V q850 q851 q852 q117 q853) cyX0_best rfl rfl rfl ⟨Nat.le_of_ble_eq_true rfl, Nat.le_of_ble_eq_true rfl⟩ (Nat.le_of_ble_eq_true rfl) dL_law_483 ⟨by omega, by omega⟩ rfl ?_
  refine tm_aload_n X 2 dL_law_486 rfl rfl ?_
  refine tm_aload_n X 0 dL_law_487 rfl rfl ?_
  refine tm_iload_n X 3 dL_law_488 rfl rfl ?_
  refine tm_iconst X (1 : Int32) dL_law_489 (by decide) ?_
  refine tm_iadd X dL_law_490 ?_
  refine tm_sld hSld hi1 dL_law_491 (he1) ?_
  refine tm_callVL (As := [.int a0]) (rest := [.int r]) (q0 := 0) X (ctX5_best l D am dA hm a0 r hm' e2) (lw_V q1561 q1562 q1563 q122 q1564) cyX5_best rfl rfl rfl ⟨Nat.le_of_ble_eq_true rfl, Nat.le_of_ble_eq_true rfl⟩ (Nat.le_of_ble_eq_true rfl) dL_law_492 ⟨by omega, by omega⟩ rfl ?_
  refine tm_ic_eqT X 1360 rfl dL_law_495 rfl ?_
  exact fun _ => hK ad tt hx' hm' _ _ rfl e3 (by omega) (by omega)
set_option maxHeartbeats 4000000 in
theorem lc_evenest {G : Gty} {l : Launch} {D : va_G} {dA : Nat → ClassId} {L : Nat} {xs : Nat → Int32} {b : Nat} (X : IsG G l code 4 "HighSpotsLaw" D dA 8192 100000 1200000 5502250) (hSld : ∀ (w : va_W) (ce sl pc : Nat) (lv : List (Nat × Value)) (st : List Value) (i : Int32), vp_in i L → decode code pc = .ok (.iaload, 1) → G w ce sl (pc + 1) lv (.int (xs i.toNatClampNeg) :: st) → G w ce sl pc lv (.int i :: .ref b :: st)) (I : TTy → Hp → Hp → Prop) (hS : St_evenest I) (ad am : Nat → Nat) (tt : TTy) (hx hm : Hp) (hI : I tt hx hm) (ce sl : Nat) (hce : ce + 4000 ≤ 1200000) (hsl : sl + 12000 ≤ 5502250) (x3 : Int32) (hi1 : vp_in (x3 + (1 : Int32)) L) (a0 : Int32) (he1 : xs (x3 + (1 : Int32)).toNatClampNeg = a0) (hK : ∀ (ad' : Nat → Nat) (tt' : TTy) (hx' hm' : Hp) (ce' sl' : Nat), ad' 100 = ad 100 → I tt' hx' hm' → ce' ≤ ce + 4000 → sl' ≤ sl + 12000 → G (wX ad' dA tt' hx' ++ wM am dA hm') ce' sl' 1360 [(0, .ref b), (1, .ref (ad 100)), (2, .ref (am 300)), (3, .int x3)] []) : TM G () (some ()) (wX ad dA tt hx ++ wM am dA hm) ce sl 500 [(0, .ref b), (1, .ref (ad 100)), (2, .ref (am 300)), (3, .int x3)] [] := by
  obtain ⟨r, e1, e2, e3⟩ := hS tt hx hm a0 hI
  refine tm_aload_n X 1 dL_law_500 rfl rfl ?_
  refine tm_aload_n X 0 dL_law_501 rfl rfl ?_
  refine tm_iload_n X 3 dL_law_502 rfl rfl ?_
  refine tm_iconst X (1 : Int32) dL_law_503 (by decide) ?_
  refine tm_iadd X dL_law_504 ?_
  refine tm_sld hSld hi1 dL_law_505 (he1) ?_
  refine tm_callVF (As := [.int a0]) (rest := []) (q0 := 0) X (ctX0_evenest l D ad dA tt hx a0 r e1) (lw_V q854 q855 q856 q117 q857) cyX0_evenest rfl rfl rfl ⟨Nat.le_of_ble_eq_true rfl, Nat.le_of_ble_eq_true rfl⟩ (Nat.le_of_ble_eq_true rfl) dL_law_506 ⟨by omega, by omega⟩ rfl ?_
  refine tm_aload_n X 2 dL_law_509 rfl rfl ?_
  refine tm_aload_n X 0 dL_law_510 rfl rfl ?_
  refine tm_iload_n X 3 dL_law_511 rfl rfl ?_
  refine tm_iconst X (1 : Int32) dL_law_512 (by decide) ?_
  refine tm_iadd X dL_law_513 ?_
  refine tm_sld hSld hi1 dL_law_514 (he1) ?_
  refine tm_callVL (As := [.int a0]) (rest := [.int r]) (q0 := 0) X (ctX5_evenest l D am dA hm a0 r e2) (lw_V q1569 q1570 q1571 q122 q1572) cyX5_evenest rfl rfl rfl ⟨Nat.le_of_ble_eq_true rfl, Nat.le_of_ble_eq_true rfl⟩ (Nat.le_of_ble_eq_true rfl) dL_law_515 ⟨by omega, by omega⟩ rfl ?_
  refine tm_ic_eqT X 1360 rfl dL_law_518 rfl ?_
  exact fun _ => hK ad tt hx hm _ _ rfl e3 (by omega) (by omega)
set_option maxHeartbeats 4000000 in
theorem lc_free {G : Gty} {l : Launch} {D : va_G} {dA : Nat → ClassId} {L : Nat} {xs : Nat → Int32} {b : Nat} (X : IsG G l code 4 "HighSpotsLaw" D dA 8192 100000 1200000 5502250) (hSld : ∀ (w : va_W) (ce sl pc : Nat) (lv : List (Nat × Value)) (st : List Value) (i : Int32), vp_in i L → decode code pc = .ok (.iaload, 1) → G w ce sl (pc + 1) lv (.int (xs i.toNatClampNeg) :: st) → G w ce sl pc lv (.int i :: .ref b :: st)) (I : TTy → Hp → Hp → Prop) (hS : St_free I) (ad am : Nat → Nat) (tt : TTy) (hx hm : Hp) (hI : I tt hx hm) (ce sl : Nat) (hce : ce + 4000 ≤ 1200000) (hsl : sl + 12000 ≤ 5502250) (x3 : Int32) (hi1 : vp_in (x3 + (1 : Int32)) L) (a0 : Int32) (he1 : xs (x3 + (1 : Int32)).toNatClampNeg = a0) (hK : ∀ (ad' : Nat → Nat) (tt' : TTy) (hx' hm' : Hp) (ce' sl' : Nat), ad' 100 = ad 100 → I tt' hx' hm' → ce' ≤ ce + 4000 → sl' ≤ sl + 12000 → G (wX ad' dA tt' hx' ++ wM am dA hm') ce' sl' 1360 [(0, .ref b), (1, .ref (ad 100)), (2, .ref (am 300)), (3, .int x3)] []) : TM G () (some ()) (wX ad dA tt hx ++ wM am dA hm) ce sl 523 [(0, .ref b), (1, .ref (ad 100)), (2, .ref (am 300)), (3, .int x3)] [] := by
  obtain ⟨r, hx', hm', e1, e2, e3⟩ := hS tt hx hm a0 hI
  refine tm_aload_n X 1 dL_law_523 rfl rfl ?_
  refine tm_aload_n X 0 dL_law_524 rfl rfl ?_
  refine tm_iload_n X 3 dL_law_525 rfl rfl ?_
  refine tm_iconst X (1 : Int32) dL_law_526 (by decide) ?_
  refine tm_iadd X dL_law_527 ?_
  refine tm_sld hSld hi1 dL_law_528 (he1) ?_
  refine tm_callVF (As := [.int a0]) (rest := []) (q0 := 0) X (ctX0_free l D ad dA tt hx a0 r hx' e1) (lw_V q862 q863 q864 q117 q865) cyX0_free rfl rfl rfl ⟨Nat.le_of_ble_eq_true rfl, Nat.le_of_ble_eq_true rfl⟩ (Nat.le_of_ble_eq_true rfl) dL_law_529 ⟨by omega, by omega⟩ rfl ?_
  refine tm_aload_n X 2 dL_law_532 rfl rfl ?_
  refine tm_aload_n X 0 dL_law_533 rfl rfl ?_
  refine tm_iload_n X 3 dL_law_534 rfl rfl ?_
  refine tm_iconst X (1 : Int32) dL_law_535 (by decide) ?_
  refine tm_iadd X dL_law_536 ?_
  refine tm_sld hSld hi1 dL_law_537 (he1) ?_
  refine tm_callVL (As := [.int a0]) (rest := [.int r]) (q0 := 0) X (ctX5_free l D am dA hm a0 r hm' e2) (lw_V q1577 q1578 q1579 q122 q1580) cyX5_free rfl rfl rfl ⟨Nat.le_of_ble_eq_true rfl, Nat.le_of_ble_eq_true rfl⟩ (Nat.le_of_ble_eq_true rfl) dL_law_538 ⟨by omega, by omega⟩ rfl ?_
  refine tm_ic_eqT X 1360 rfl dL_law_541 rfl ?_
  exact fun _ => hK ad tt hx' hm' _ _ rfl e3 (by omega) (by omega)
set_option maxHeartbeats 4000000 in
theorem lc_wayTo {G : Gty} {l : Launch} {D : va_G} {dA : Nat → ClassId} {L : Nat} {xs : Nat → Int32} {b : Nat} (X : IsG G l code 4 "HighSpotsLaw" D dA 8192 100000 1200000 5502250) (hSld : ∀ (w : va_W) (ce sl pc : Nat) (lv : List (Nat × Value)) (st : List Value) (i : Int32), vp_in i L → decode code pc = .ok (.iaload, 1) → G w ce sl (pc + 1) lv (.int (xs i.toNatClampNeg) :: st) → G w ce sl pc lv (.int i :: .ref b :: st)) (I : TTy → Hp → Hp → Prop) (hS : St_wayTo I) (ad am : Nat → Nat) (tt : TTy) (hx hm : Hp) (hI : I tt hx hm) (ce sl : Nat) (hce : ce + 4000 ≤ 1200000) (hsl : sl + 12000 ≤ 5502250) (x3 : Int32) (hi1 : vp_in (x3 + (1 : Int32)) L) (hi2 : vp_in (x3 + (2 : Int32)) L) (hi3 : vp_in (x3 + (3 : Int32)) L) (hi4 : vp_in (x3 + (4 : Int32)) L) (a0 : Int32) (he1 : xs (x3 + (1 : Int32)).toNatClampNeg = a0) (a1 : Int32) (he2 : xs (x3 + (2 : Int32)).toNatClampNeg = a1) (a2 : Int32) (he3 : xs (x3 + (3 : Int32)).toNatClampNeg = a2) (a3 : Int32) (he4 : xs (x3 + (4 : Int32)).toNatClampNeg = a3) (hK : ∀ (ad' : Nat → Nat) (tt' : TTy) (hx' hm' : Hp) (ce' sl' : Nat), ad' 100 = ad 100 → I tt' hx' hm' → ce' ≤ ce + 4000 → sl' ≤ sl + 12000 → G (wX ad' dA tt' hx' ++ wM am dA hm') ce' sl' 1360 [(0, .ref b), (1, .ref (ad 100)), (2, .ref (am 300)), (3, .int x3)] []) : TM G () (some ()) (wX ad dA tt hx ++ wM am dA hm) ce sl 546 [(0, .ref b), (1, .ref (ad 100)), (2, .ref (am 300)), (3, .int x3)] [] := by
  obtain ⟨r, hx', hm', e1, e2, e3⟩ := hS tt hx hm a0 a1 a2 a3 hI
  refine tm_aload_n X 1 dL_law_546 rfl rfl ?_
  refine tm_aload_n X 0 dL_law_547 rfl rfl ?_
  refine tm_iload_n X 3 dL_law_548 rfl rfl ?_
  refine tm_iconst X (1 : Int32) dL_law_549 (by decide) ?_
  refine tm_iadd X dL_law_550 ?_
  refine tm_sld hSld hi1 dL_law_551 (he1) ?_
  refine tm_aload_n X 0 dL_law_552 rfl rfl ?_
  refine tm_iload_n X 3 dL_law_553 rfl rfl ?_
  refine tm_iconst X (2 : Int32) dL_law_554 (by decide) ?_
  refine tm_iadd X dL_law_555 ?_
  refine tm_sld hSld hi2 dL_law_556 (he2) ?_
  refine tm_aload_n X 0 dL_law_557 rfl rfl ?_
  refine tm_iload_n X 3 dL_law_558 rfl rfl ?_
  refine tm_iconst X (3 : Int32) dL_law_559 (by decide) ?_
  refine tm_iadd X dL_law_560 ?_
  refine tm_sld hSld hi3 dL_law_561 (he3) ?_
  refine tm_aload_n X 0 dL_law_562 rfl rfl ?_
  refine tm_iload_n X 3 dL_law_563 rfl rfl ?_
  refine tm_iconst X (4 : Int32) dL_law_564 (by decide) ?_
  refine tm_iadd X dL_law_565 ?_
  refine tm_sld hSld hi4 dL_law_566 (he4) ?_
  refine tm_callVF (As := [.int a0, .int a1, .int a2, .int a3]) (rest := []) (q0 := 0) X (ctX0_wayTo l D ad dA tt hx a0 a1 a2 a3 r hx' e1) (lw_V q870 q871 q872 q117 q873) cyX0_wayTo rfl rfl rfl ⟨Nat.le_of_ble_eq_true rfl, Nat.le_of_ble_eq_true rfl⟩ (Nat.le_of_ble_eq_true rfl) dL_law_567 ⟨by omega, by omega⟩ rfl ?_
  refine tm_aload_n X 2 dL_law_570 rfl rfl ?_
  refine tm_aload_n X 0 dL_law_571 rfl rfl ?_
  refine tm_iload_n X 3 dL_law_572 rfl rfl ?_
  refine tm_iconst X (1 : Int32) dL_law_573 (by decide) ?_
  refine tm_iadd X dL_law_574 ?_
  refine tm_sld hSld hi1 dL_law_575 (he1) ?_
  refine tm_aload_n X 0 dL_law_576 rfl rfl ?_
  refine tm_iload_n X 3 dL_law_577 rfl rfl ?_
  refine tm_iconst X (2 : Int32) dL_law_578 (by decide) ?_
  refine tm_iadd X dL_law_579 ?_
  refine tm_sld hSld hi2 dL_law_580 (he2) ?_
  refine tm_aload_n X 0 dL_law_581 rfl rfl ?_
  refine tm_iload_n X 3 dL_law_582 rfl rfl ?_
  refine tm_iconst X (3 : Int32) dL_law_583 (by decide) ?_
  refine tm_iadd X dL_law_584 ?_
  refine tm_sld hSld hi3 dL_law_585 (he3) ?_
  refine tm_aload_n X 0 dL_law_586 rfl rfl ?_
  refine tm_iload_n X 3 dL_law_587 rfl rfl ?_
  refine tm_iconst X (4 : Int32) dL_law_588 (by decide) ?_
  refine tm_iadd X dL_law_589 ?_
  refine tm_sld hSld hi4 dL_law_590 (he4) ?_
  refine tm_callVL (As := [.int a0, .int a1, .int a2, .int a3]) (rest := [.int r]) (q0 := 0) X (ctX5_wayTo l D am dA hm a0 a1 a2 a3 r hm' e2) (lw_V q1595 q1596 q1597 q122 q1598) cyX5_wayTo rfl rfl rfl ⟨Nat.le_of_ble_eq_true rfl, Nat.le_of_ble_eq_true rfl⟩ (Nat.le_of_ble_eq_true rfl) dL_law_591 ⟨by omega, by omega⟩ rfl ?_
  refine tm_ic_eqT X 1360 rfl dL_law_594 rfl ?_
  exact fun _ => hK ad tt hx' hm' _ _ rfl e3 (by omega) (by omega)
set_option maxHeartbeats 4000000 in
theorem lc_toBear {G : Gty} {l : Launch} {D : va_G} {dA : Nat → ClassId} {L : Nat} {xs : Nat → Int32} {b : Nat} (X : IsG G l code 4 "HighSpotsLaw" D dA 8192 100000 1200000 5502250) (hSld : ∀ (w : va_W) (ce sl pc : Nat) (lv : List (Nat × Value)) (st : List Value) (i : Int32), vp_in i L → decode code pc = .ok (.iaload, 1) → G w ce sl (pc + 1) lv (.int (xs i.toNatClampNeg) :: st) → G w ce sl pc lv (.int i :: .ref b :: st)) (I : TTy → Hp → Hp → Prop) (hS : St_toBear I) (ad am : Nat → Nat) (tt : TTy) (hx hm : Hp) (hI : I tt hx hm) (ce sl : Nat) (hce : ce + 4000 ≤ 1200000) (hsl : sl + 12000 ≤ 5502250) (x3 : Int32) (hi1 : vp_in (x3 + (1 : Int32)) L) (a0 : Int32) (he1 : xs (x3 + (1 : Int32)).toNatClampNeg = a0) (hK : ∀ (ad' : Nat → Nat) (tt' : TTy) (hx' hm' : Hp) (ce' sl' : Nat), ad' 100 = ad 100 → I tt' hx' hm' → ce' ≤ ce + 4000 → sl' ≤ sl + 12000 → G (wX ad' dA tt' hx' ++ wM am dA hm') ce' sl' 1360 [(0, .ref b), (1, .ref (ad 100)), (2, .ref (am 300)), (3, .int x3)] []) : TM G () (some ()) (wX ad dA tt hx ++ wM am dA hm) ce sl 599 [(0, .ref b), (1, .ref (ad 100)), (2, .ref (am 300)), (3, .int x3)] [] := by
  obtain ⟨r, hx', hm', e1, e2, e3⟩ := hS tt hx hm a0 hI
  refine tm_aload_n X 1 dL_law_599 rfl rfl ?_
  refine tm_aload_n X 0 dL_law_600 rfl rfl ?_
  refine tm_iload_n X 3 dL_law_601 rfl rfl ?_
  refine tm_iconst X (1 : Int32) dL_law_602 (by decide) ?_
  refine tm_iadd X dL_law_603 ?_
  refine tm_sld hSld hi1 dL_law_604 (he1) ?_
  refine tm_callVF (As := [.int a0]) (rest := []) (q0 := 0) X (ctX0_toBear l D ad dA tt hx a0 r hx' e1) (lw_V q879 q880 q881 q117 q882) cyX0_toBear rfl rfl rfl ⟨Nat.le_of_ble_eq_true rfl, Nat.le_of_ble_eq_true rfl⟩ (Nat.le_of_ble_eq_true rfl) dL_law_605 ⟨by omega, by omega⟩ rfl ?_
  refine tm_aload_n X 2 dL_law_608 rfl rfl ?_
  refine tm_aload_n X 0 dL_law_609 rfl rfl ?_
  refine tm_iload_n X 3 dL_law_610 rfl rfl ?_
  refine tm_iconst X (1 : Int32) dL_law_611 (by decide) ?_
  refine tm_iadd X dL_law_612 ?_
  refine tm_sld hSld hi1 dL_law_613 (he1) ?_
  refine tm_callVL (As := [.int a0]) (rest := [.int r]) (q0 := 0) X (ctX5_toBear l D am dA hm a0 r hm' e2) (lw_V q1603 q1604 q1605 q122 q1606) cyX5_toBear rfl rfl rfl ⟨Nat.le_of_ble_eq_true rfl, Nat.le_of_ble_eq_true rfl⟩ (Nat.le_of_ble_eq_true rfl) dL_law_614 ⟨by omega, by omega⟩ rfl ?_
  refine tm_ic_eqT X 1360 rfl dL_law_617 rfl ?_
  exact fun _ => hK ad tt hx' hm' _ _ rfl e3 (by omega) (by omega)
set_option maxHeartbeats 4000000 in
theorem lc_toLower {G : Gty} {l : Launch} {D : va_G} {dA : Nat → ClassId} {L : Nat} {xs : Nat → Int32} {b : Nat} (X : IsG G l code 4 "HighSpotsLaw" D dA 8192 100000 1200000 5502250) (hSld : ∀ (w : va_W) (ce sl pc : Nat) (lv : List (Nat × Value)) (st : List Value) (i : Int32), vp_in i L → decode code pc = .ok (.iaload, 1) → G w ce sl (pc + 1) lv (.int (xs i.toNatClampNeg) :: st) → G w ce sl pc lv (.int i :: .ref b :: st)) (I : TTy → Hp → Hp → Prop) (hS : St_toLower I) (ad am : Nat → Nat) (tt : TTy) (hx hm : Hp) (hI : I tt hx hm) (ce sl : Nat) (hce : ce + 4000 ≤ 1200000) (hsl : sl + 12000 ≤ 5502250) (x3 : Int32) (hi1 : vp_in (x3 + (1 : Int32)) L) (a0 : Int32) (he1 : xs (x3 + (1 : Int32)).toNatClampNeg = a0) (hK : ∀ (ad' : Nat → Nat) (tt' : TTy) (hx' hm' : Hp) (ce' sl' : Nat), ad' 100 = ad 100 → I tt' hx' hm' → ce' ≤ ce + 4000 → sl' ≤ sl + 12000 → G (wX ad' dA tt' hx' ++ wM am dA hm') ce' sl' 1360 [(0, .ref b), (1, .ref (ad 100)), (2, .ref (am 300)), (3, .int x3)] []) : TM G () (some ()) (wX ad dA tt hx ++ wM am dA hm) ce sl 622 [(0, .ref b), (1, .ref (ad 100)), (2, .ref (am 300)), (3, .int x3)] [] := by
  obtain ⟨r, e1, e2, e3⟩ := hS tt hx hm a0 hI
  refine tm_aload_n X 1 dL_law_622 rfl rfl ?_
  refine tm_aload_n X 0 dL_law_623 rfl rfl ?_
  refine tm_iload_n X 3 dL_law_624 rfl rfl ?_
  refine tm_iconst X (1 : Int32) dL_law_625 (by decide) ?_
  refine tm_iadd X dL_law_626 ?_
  refine tm_sld hSld hi1 dL_law_627 (he1) ?_
  refine tm_callVF (As := [.int a0]) (rest := []) (q0 := 0) X (ctX0_toLower l D ad dA tt hx a0 r e1) (lw_V q891 q892 q893 q117 q894) cyX0_toLower rfl rfl rfl ⟨Nat.le_of_ble_eq_true rfl, Nat.le_of_ble_eq_true rfl⟩ (Nat.le_of_ble_eq_true rfl) dL_law_628 ⟨by omega, by omega⟩ rfl ?_
  refine tm_aload_n X 2 dL_law_631 rfl rfl ?_
  refine tm_aload_n X 0 dL_law_632 rfl rfl ?_
  refine tm_iload_n X 3 dL_law_633 rfl rfl ?_
  refine tm_iconst X (1 : Int32) dL_law_634 (by decide) ?_
  refine tm_iadd X dL_law_635 ?_
  refine tm_sld hSld hi1 dL_law_636 (he1) ?_
  refine tm_callVL (As := [.int a0]) (rest := [.int r]) (q0 := 0) X (ctX5_toLower l D am dA hm a0 r e2) (lw_V q1619 q1620 q1621 q122 q1622) cyX5_toLower rfl rfl rfl ⟨Nat.le_of_ble_eq_true rfl, Nat.le_of_ble_eq_true rfl⟩ (Nat.le_of_ble_eq_true rfl) dL_law_637 ⟨by omega, by omega⟩ rfl ?_
  refine tm_ic_eqT X 1360 rfl dL_law_640 rfl ?_
  exact fun _ => hK ad tt hx hm _ _ rfl e3 (by omega) (by omega)
set_option maxHeartbeats 4000000 in
theorem lc_anywhere {G : Gty} {l : Launch} {D : va_G} {dA : Nat → ClassId} {L : Nat} {xs : Nat → Int32} {b : Nat} (X : IsG G l code 4 "HighSpotsLaw" D dA 8192 100000 1200000 5502250) (hSld : ∀ (w : va_W) (ce sl pc : Nat) (lv : List (Nat × Value)) (st : List Value) (i : Int32), vp_in i L → decode code pc = .ok (.iaload, 1) → G w ce sl (pc + 1) lv (.int (xs i.toNatClampNeg) :: st) → G w ce sl pc lv (.int i :: .ref b :: st)) (I : TTy → Hp → Hp → Prop) (hS : St_anywhere I) (ad am : Nat → Nat) (tt : TTy) (hx hm : Hp) (hI : I tt hx hm) (ce sl : Nat) (hce : ce + 4000 ≤ 1200000) (hsl : sl + 12000 ≤ 5502250) (x3 : Int32) (hi1 : vp_in (x3 + (1 : Int32)) L) (a0 : Int32) (he1 : xs (x3 + (1 : Int32)).toNatClampNeg = a0) (hK : ∀ (ad' : Nat → Nat) (tt' : TTy) (hx' hm' : Hp) (ce' sl' : Nat), ad' 100 = ad 100 → I tt' hx' hm' → ce' ≤ ce + 4000 → sl' ≤ sl + 12000 → G (wX ad' dA tt' hx' ++ wM am dA hm') ce' sl' 1360 [(0, .ref b), (1, .ref (ad 100)), (2, .ref (am 300)), (3, .int x3)] []) : TM G () (some ()) (wX ad dA tt hx ++ wM am dA hm) ce sl 645 [(0, .ref b), (1, .ref (ad 100)), (2, .ref (am 300)), (3, .int x3)] [] := by
  obtain ⟨r, e1, e2, e3⟩ := hS tt hx hm a0 hI
  refine tm_aload_n X 1 dL_law_645 rfl rfl ?_
  refine tm_aload_n X 0 dL_law_646 rfl rfl ?_
  refine tm_iload_n X 3 dL_law_647 rfl rfl ?_
  refine tm_iconst X (1 : Int32) dL_law_648 (by decide) ?_
  refine tm_iadd X dL_law_649 ?_
  refine tm_sld hSld hi1 dL_law_650 (he1) ?_
  refine tm_callVF (As := [.int a0]) (rest := []) (q0 := 0) X (ctX0_anywhere l D ad dA tt hx a0 r e1) (lw_V q895 q896 q897 q117 q898) cyX0_anywhere rfl rfl rfl ⟨Nat.le_of_ble_eq_true rfl, Nat.le_of_ble_eq_true rfl⟩ (Nat.le_of_ble_eq_true rfl) dL_law_651 ⟨by omega, by omega⟩ rfl ?_
  refine tm_aload_n X 2 dL_law_654 rfl rfl ?_
  refine tm_aload_n X 0 dL_law_655 rfl rfl ?_
  refine tm_iload_n X 3 dL_law_656 rfl rfl ?_
  refine tm_iconst X (1 : Int32) dL_law_657 (by decide) ?_
  refine tm_iadd X dL_law_658 ?_
  refine tm_sld hSld hi1 dL_law_659 (he1) ?_
  refine tm_callVL (As := [.int a0]) (rest := [.int r]) (q0 := 0) X (ctX5_anywhere l D am dA hm a0 r e2) (lw_V q1623 q1624 q1625 q122 q1626) cyX5_anywhere rfl rfl rfl ⟨Nat.le_of_ble_eq_true rfl, Nat.le_of_ble_eq_true rfl⟩ (Nat.le_of_ble_eq_true rfl) dL_law_660 ⟨by omega, by omega⟩ rfl ?_
  refine tm_ic_eqT X 1360 rfl dL_law_663 rfl ?_
  exact fun _ => hK ad tt hx hm _ _ rfl e3 (by omega) (by omega)
set_option maxHeartbeats 4000000 in
theorem lc_grind {G : Gty} {l : Launch} {D : va_G} {dA : Nat → ClassId} {L : Nat} {xs : Nat → Int32} {b : Nat} (X : IsG G l code 4 "HighSpotsLaw" D dA 8192 100000 1200000 5502250) (hSld : ∀ (w : va_W) (ce sl pc : Nat) (lv : List (Nat × Value)) (st : List Value) (i : Int32), vp_in i L → decode code pc = .ok (.iaload, 1) → G w ce sl (pc + 1) lv (.int (xs i.toNatClampNeg) :: st) → G w ce sl pc lv (.int i :: .ref b :: st)) (I : TTy → Hp → Hp → Prop) (hS : St_grind I) (ad am : Nat → Nat) (tt : TTy) (hx hm : Hp) (hI : I tt hx hm) (ce sl : Nat) (hce : ce + 4000 ≤ 1200000) (hsl : sl + 12000 ≤ 5502250) (x3 : Int32) (hi1 : vp_in (x3 + (1 : Int32)) L) (a0 : Int32) (he1 : xs (x3 + (1 : Int32)).toNatClampNeg = a0) (hK : ∀ (ad' : Nat → Nat) (tt' : TTy) (hx' hm' : Hp) (ce' sl' : Nat), ad' 100 = ad 100 → I tt' hx' hm' → ce' ≤ ce + 4000 → sl' ≤ sl + 12000 → G (wX ad' dA tt' hx' ++ wM am dA hm') ce' sl' 1360 [(0, .ref b), (1, .ref (ad 100)), (2, .ref (am 300)), (3, .int x3)] []) : TM G () (some ()) (wX ad dA tt hx ++ wM am dA hm) ce sl 668 [(0, .ref b), (1, .ref (ad 100)), (2, .ref (am 300)), (3, .int x3)] [] := by
  obtain ⟨r, hx', hm', e1, e2, e3⟩ := hS tt hx hm a0 hI
  refine tm_aload_n X 1 dL_law_668 rfl rfl ?_
  refine tm_aload_n X 0 dL_law_669 rfl rfl ?_
  refine tm_iload_n X 3 dL_law_670 rfl rfl ?_
  refine tm_iconst X (1 : Int32) dL_law_671 (by decide) ?_
  refine tm_iadd X dL_law_672 ?_
  refine tm_sld hSld hi1 dL_law_673 (he1) ?_
  refine tm_callVF (As := [.int a0]) (rest := []) (q0 := 0) X (ctX0_grind l D ad dA tt hx a0 r hx' e1) (lw_V q903 q904 q905 q117 q906) cyX0_grind rfl rfl rfl ⟨Nat.le_of_ble_eq_true rfl, Nat.le_of_ble_eq_true rfl⟩ (Nat.le_of_ble_eq_true rfl) dL_law_674 ⟨by omega, by omega⟩ rfl ?_
  refine tm_aload_n X 2 dL_law_677 rfl rfl ?_
  refine tm_aload_n X 0 dL_law_678 rfl rfl ?_
  refine tm_iload_n X 3 dL_law_679 rfl rfl ?_
  refine tm_iconst X (1 : Int32) dL_law_680 (by decide) ?_
  refine tm_iadd X dL_law_681 ?_
  refine tm_sld hSld hi1 dL_law_682 (he1) ?_
  refine tm_callVL (As := [.int a0]) (rest := [.int r]) (q0 := 0) X (ctX5_grind l D am dA hm a0 r hm' e2) (lw_V q1631 q1632 q1633 q122 q1634) cyX5_grind rfl rfl rfl ⟨Nat.le_of_ble_eq_true rfl, Nat.le_of_ble_eq_true rfl⟩ (Nat.le_of_ble_eq_true rfl) dL_law_683 ⟨by omega, by omega⟩ rfl ?_
  refine tm_ic_eqT X 1360 rfl dL_law_686 rfl ?_
  exact fun _ => hK ad tt hx' hm' _ _ rfl e3 (by omega) (by omega)
set_option maxHeartbeats 4000000 in
theorem lc_spots {G : Gty} {l : Launch} {D : va_G} {dA : Nat → ClassId} {L : Nat} {xs : Nat → Int32} {b : Nat} (X : IsG G l code 4 "HighSpotsLaw" D dA 8192 100000 1200000 5502250) (hSld : ∀ (w : va_W) (ce sl pc : Nat) (lv : List (Nat × Value)) (st : List Value) (i : Int32), vp_in i L → decode code pc = .ok (.iaload, 1) → G w ce sl (pc + 1) lv (.int (xs i.toNatClampNeg) :: st) → G w ce sl pc lv (.int i :: .ref b :: st)) (I : TTy → Hp → Hp → Prop) (hS : St_spots I) (ad am : Nat → Nat) (tt : TTy) (hx hm : Hp) (hI : I tt hx hm) (ce sl : Nat) (hce : ce + 4000 ≤ 1200000) (hsl : sl + 12000 ≤ 5502250) (x3 : Int32) (hi1 : vp_in (x3 + (1 : Int32)) L) (hi2 : vp_in (x3 + (2 : Int32)) L) (hi3 : vp_in (x3 + (3 : Int32)) L) (hi4 : vp_in (x3 + (4 : Int32)) L) (a0 : Int32) (he1 : xs (x3 + (1 : Int32)).toNatClampNeg = a0) (a1 : Int32) (he2 : xs (x3 + (2 : Int32)).toNatClampNeg = a1) (a2 : Int32) (he3 : xs (x3 + (3 : Int32)).toNatClampNeg = a2) (a3 : Int32) (he4 : xs (x3 + (4 : Int32)).toNatClampNeg = a3) (hK : ∀ (ad' : Nat → Nat) (tt' : TTy) (hx' hm' : Hp) (ce' sl' : Nat), ad' 100 = ad 100 → I tt' hx' hm' → ce' ≤ ce + 4000 → sl' ≤ sl + 12000 → G (wX ad' dA tt' hx' ++ wM am dA hm') ce' sl' 1360 [(0, .ref b), (1, .ref (ad 100)), (2, .ref (am 300)), (3, .int x3)] []) : TM G () (some ()) (wX ad dA tt hx ++ wM am dA hm) ce sl 691 [(0, .ref b), (1, .ref (ad 100)), (2, .ref (am 300)), (3, .int x3)] [] := by
  obtain ⟨r, hx', hm', e1, e2, e3⟩ := hS tt hx hm a0 a1 a2 a3 hI
  refine tm_aload_n X 1 dL_law_691 rfl rfl ?_
  refine tm_aload_n X 0 dL_law_692 rfl rfl ?_
  refine tm_iload_n X 3 dL_law_693 rfl rfl ?_
  refine tm_iconst X (1 : Int32) dL_law_694 (by decide) ?_
  refine tm_iadd X dL_law_695 ?_
  refine tm_sld hSld hi1 dL_law_696 (he1) ?_
  refine tm_aload_n X 0 dL_law_697 rfl rfl ?_
  refine tm_iload_n X 3 dL_law_698 rfl rfl ?_
  refine tm_iconst X (2 : Int32) dL_law_699 (by decide) ?_
  refine tm_iadd X dL_law_700 ?_
  refine tm_sld hSld hi2 dL_law_701 (he2) ?_
  refine tm_aload_n X 0 dL_law_702 rfl rfl ?_
  refine tm_iload_n X 3 dL_law_703 rfl rfl ?_
  refine tm_iconst X (3 : Int32) dL_law_704 (by decide) ?_
  refine tm_iadd X dL_law_705 ?_
  refine tm_sld hSld hi3 dL_law_706 (he3) ?_
  refine tm_aload_n X 0 dL_law_707 rfl rfl ?_
  refine tm_iload_n X 3 dL_law_708 rfl rfl ?_
  refine tm_iconst X (4 : Int32) dL_law_709 (by decide) ?_
  refine tm_iadd X dL_law_710 ?_
  refine tm_sld hSld hi4 dL_law_711 (he4) ?_
  refine tm_callVF (As := [.int a0, .int a1, .int a2, .int a3]) (rest := []) (q0 := 0) X (ctX0_spots l D ad dA tt hx a0 a1 a2 a3 r hx' e1) (lw_V q920 q921 q922 q117 q923) cyX0_spots rfl rfl rfl ⟨Nat.le_of_ble_eq_true rfl, Nat.le_of_ble_eq_true rfl⟩ (Nat.le_of_ble_eq_true rfl) dL_law_712 ⟨by omega, by omega⟩ rfl ?_
  refine tm_aload_n X 2 dL_law_715 rfl rfl ?_
  refine tm_aload_n X 0 dL_law_716 rfl rfl ?_
  refine tm_iload_n X 3 dL_law_717 rfl rfl ?_
  refine tm_iconst X (1 : Int32) dL_law_718 (by decide) ?_
  refine tm_iadd X dL_law_719 ?_
  refine tm_sld hSld hi1 dL_law_720 (he1) ?_
  refine tm_aload_n X 0 dL_law_721 rfl rfl ?_
  refine tm_iload_n X 3 dL_law_722 rfl rfl ?_
  refine tm_iconst X (2 : Int32) dL_law_723 (by decide) ?_
  refine tm_iadd X dL_law_724 ?_
  refine tm_sld hSld hi2 dL_law_725 (he2) ?_
  refine tm_aload_n X 0 dL_law_726 rfl rfl ?_
  refine tm_iload_n X 3 dL_law_727 rfl rfl ?_
  refine tm_iconst X (3 : Int32) dL_law_728 (by decide) ?_
  refine tm_iadd X dL_law_729 ?_
  refine tm_sld hSld hi3 dL_law_730 (he3) ?_
  refine tm_aload_n X 0 dL_law_731 rfl rfl ?_
  refine tm_iload_n X 3 dL_law_732 rfl rfl ?_
  refine tm_iconst X (4 : Int32) dL_law_733 (by decide) ?_
  refine tm_iadd X dL_law_734 ?_
  refine tm_sld hSld hi4 dL_law_735 (he4) ?_
  refine tm_callVL (As := [.int a0, .int a1, .int a2, .int a3]) (rest := [.int r]) (q0 := 0) X (ctX5_spots l D am dA hm a0 a1 a2 a3 r hm' e2) (lw_V q1639 q1640 q1641 q122 q1642) cyX5_spots rfl rfl rfl ⟨Nat.le_of_ble_eq_true rfl, Nat.le_of_ble_eq_true rfl⟩ (Nat.le_of_ble_eq_true rfl) dL_law_736 ⟨by omega, by omega⟩ rfl ?_
  refine tm_ic_eqT X 1360 rfl dL_law_739 rfl ?_
  exact fun _ => hK ad tt hx' hm' _ _ rfl e3 (by omega) (by omega)
set_option maxHeartbeats 4000000 in
theorem lc_figure {G : Gty} {l : Launch} {D : va_G} {dA : Nat → ClassId} {L : Nat} {xs : Nat → Int32} {b : Nat} (X : IsG G l code 4 "HighSpotsLaw" D dA 8192 100000 1200000 5502250) (hSld : ∀ (w : va_W) (ce sl pc : Nat) (lv : List (Nat × Value)) (st : List Value) (i : Int32), vp_in i L → decode code pc = .ok (.iaload, 1) → G w ce sl (pc + 1) lv (.int (xs i.toNatClampNeg) :: st) → G w ce sl pc lv (.int i :: .ref b :: st)) (I : TTy → Hp → Hp → Prop) (hS : St_figure I) (ad am : Nat → Nat) (tt : TTy) (hx hm : Hp) (hI : I tt hx hm) (ce sl : Nat) (hce : ce + 4000 ≤ 1200000) (hsl : sl + 12000 ≤ 5502250) (x3 : Int32) (hK : ∀ (ad' : Nat → Nat) (tt' : TTy) (hx' hm' : Hp) (ce' sl' : Nat), ad' 100 = ad 100 → I tt' hx' hm' → ce' ≤ ce + 4000 → sl' ≤ sl + 12000 → G (wX ad' dA tt' hx' ++ wM am dA hm') ce' sl' 1360 [(0, .ref b), (1, .ref (ad 100)), (2, .ref (am 300)), (3, .int x3)] []) : TM G () (some ()) (wX ad dA tt hx ++ wM am dA hm) ce sl 744 [(0, .ref b), (1, .ref (ad 100)), (2, .ref (am 300)), (3, .int x3)] [] := by
  obtain ⟨r, hx', hm', e1, e2, e3⟩ := hS tt hx hm hI
  refine tm_aload_n X 1 dL_law_744 rfl rfl ?_
  refine tm_callVF (As := []) (rest := []) (q0 := 0) X (ctX0_figure l D ad dA tt hx r hx' e1) (lw_V q935 q936 q937 q117 q938) cyX0_figure rfl rfl rfl ⟨Nat.le_of_ble_eq_true rfl, Nat.le_of_ble_eq_true rfl⟩ (Nat.le_of_ble_eq_true rfl) dL_law_745 ⟨by omega, by omega⟩ rfl ?_
  refine tm_aload_n X 2 dL_law_748 rfl rfl ?_
  refine tm_callVL (As := []) (rest := [.int r]) (q0 := 0) X (ctX5_figure l D am dA hm r hm' e2) (lw_V q1689 q1690 q1691 q122 q1692) cyX5_figure rfl rfl rfl ⟨Nat.le_of_ble_eq_true rfl, Nat.le_of_ble_eq_true rfl⟩ (Nat.le_of_ble_eq_true rfl) dL_law_749 ⟨by omega, by omega⟩ rfl ?_
  refine tm_ic_eqT X 1360 rfl dL_law_752 rfl ?_
  exact fun _ => hK ad tt hx' hm' _ _ rfl e3 (by omega) (by omega)
set_option maxHeartbeats 4000000 in
theorem lc_tripods {G : Gty} {l : Launch} {D : va_G} {dA : Nat → ClassId} {L : Nat} {xs : Nat → Int32} {b : Nat} (X : IsG G l code 4 "HighSpotsLaw" D dA 8192 100000 1200000 5502250) (hSld : ∀ (w : va_W) (ce sl pc : Nat) (lv : List (Nat × Value)) (st : List Value) (i : Int32), vp_in i L → decode code pc = .ok (.iaload, 1) → G w ce sl (pc + 1) lv (.int (xs i.toNatClampNeg) :: st) → G w ce sl pc lv (.int i :: .ref b :: st)) (I : TTy → Hp → Hp → Prop) (hS : St_tripods I) (ad am : Nat → Nat) (tt : TTy) (hx hm : Hp) (hI : I tt hx hm) (ce sl : Nat) (hce : ce + 4000 ≤ 1200000) (hsl : sl + 12000 ≤ 5502250) (x3 : Int32) (hK : ∀ (ad' : Nat → Nat) (tt' : TTy) (hx' hm' : Hp) (ce' sl' : Nat), ad' 100 = ad 100 → I tt' hx' hm' → ce' ≤ ce + 4000 → sl' ≤ sl + 12000 → G (wX ad' dA tt' hx' ++ wM am dA hm') ce' sl' 1360 [(0, .ref b), (1, .ref (ad 100)), (2, .ref (am 300)), (3, .int x3)] []) : TM G () (some ()) (wX ad dA tt hx ++ wM am dA hm) ce sl 757 [(0, .ref b), (1, .ref (ad 100)), (2, .ref (am 300)), (3, .int x3)] [] := by
  obtain ⟨r, hx', hm', e1, e2, e3⟩ := hS tt hx hm hI
  refine tm_aload_n X 1 dL_law_757 rfl rfl ?_
  refine tm_callVF (As := []) (rest := []) (q0 := 0) X (ctX0_tripods l D ad dA tt hx r hx' e1) (lw_V q952 q953 q954 q117 q955) cyX0_tripods rfl rfl rfl ⟨Nat.le_of_ble_eq_true rfl, Nat.le_of_ble_eq_true rfl⟩ (Nat.le_of_ble_eq_true rfl) dL_law_758 ⟨by omega, by omega⟩ rfl ?_
  refine tm_aload_n X 2 dL_law_761 rfl rfl ?_
  refine tm_callVL (As := []) (rest := [.int r]) (q0 := 0) X (ctX5_tripods l D am dA hm r hm' e2) (lw_V q1658 q1659 q1660 q122 q1661) cyX5_tripods rfl rfl rfl ⟨Nat.le_of_ble_eq_true rfl, Nat.le_of_ble_eq_true rfl⟩ (Nat.le_of_ble_eq_true rfl) dL_law_762 ⟨by omega, by omega⟩ rfl ?_
  refine tm_ic_eqT X 1360 rfl dL_law_765 rfl ?_
  exact fun _ => hK ad tt hx' hm' _ _ rfl e3 (by omega) (by omega)
set_option maxHeartbeats 4000000 in
theorem lc_climb {G : Gty} {l : Launch} {D : va_G} {dA : Nat → ClassId} {L : Nat} {xs : Nat → Int32} {b : Nat} (X : IsG G l code 4 "HighSpotsLaw" D dA 8192 100000 1200000 5502250) (hSld : ∀ (w : va_W) (ce sl pc : Nat) (lv : List (Nat × Value)) (st : List Value) (i : Int32), vp_in i L → decode code pc = .ok (.iaload, 1) → G w ce sl (pc + 1) lv (.int (xs i.toNatClampNeg) :: st) → G w ce sl pc lv (.int i :: .ref b :: st)) (I : TTy → Hp → Hp → Prop) (hS : St_climb I) (ad am : Nat → Nat) (tt : TTy) (hx hm : Hp) (hI : I tt hx hm) (ce sl : Nat) (hce : ce + 4000 ≤ 1200000) (hsl : sl + 12000 ≤ 5502250) (x3 : Int32) (hi1 : vp_in (x3 + (1 : Int32)) L) (hi2 : vp_in (x3 + (2 : Int32)) L) (a0 : Int32) (he1 : xs (x3 + (1 : Int32)).toNatClampNeg = a0) (a1 : Int32) (he2 : xs (x3 + (2 : Int32)).toNatClampNeg = a1) (hK : ∀ (ad' : Nat → Nat) (tt' : TTy) (hx' hm' : Hp) (ce' sl' : Nat), ad' 100 = ad 100 → I tt' hx' hm' → ce' ≤ ce + 4000 → sl' ≤ sl + 12000 → G (wX ad' dA tt' hx' ++ wM am dA hm') ce' sl' 1360 [(0, .ref b), (1, .ref (ad 100)), (2, .ref (am 300)), (3, .int x3)] []) : TM G () (some ()) (wX ad dA tt hx ++ wM am dA hm) ce sl 770 [(0, .ref b), (1, .ref (ad 100)), (2, .ref (am 300)), (3, .int x3)] [] := by
  obtain ⟨r, hx', hm', e1, e2, e3⟩ := hS tt hx hm a0 a1 hI
  refine tm_aload_n X 1 dL_law_770 rfl rfl ?_
  refine tm_aload_n X 0 dL_law_771 rfl rfl ?_
  refine tm_iload_n X 3 dL_law_772 rfl rfl ?_
  refine tm_iconst X (1 : Int32) dL_law_773 (by decide) ?_
  refine tm_iadd X dL_law_774 ?_
  refine tm_sld hSld hi1 dL_law_775 (he1) ?_
  refine tm_aload_n X 0 dL_law_776 rfl rfl ?_
  refine tm_iload_n X 3 dL_law_777 rfl rfl ?_
  refine tm_iconst X (2 : Int32) dL_law_778 (by decide) ?_
  refine tm_iadd X dL_law_779 ?_
  refine tm_sld hSld hi2 dL_law_780 (he2) ?_
  refine tm_callVF (As := [.int a0, .int a1]) (rest := []) (q0 := 0) X (ctX0_climb l D ad dA tt hx a0 a1 r hx' e1) (lw_V q1002 q1003 q1004 q117 q1005) cyX0_climb rfl rfl rfl ⟨Nat.le_of_ble_eq_true rfl, Nat.le_of_ble_eq_true rfl⟩ (Nat.le_of_ble_eq_true rfl) dL_law_781 ⟨by omega, by omega⟩ rfl ?_
  refine tm_aload_n X 2 dL_law_784 rfl rfl ?_
  refine tm_aload_n X 0 dL_law_785 rfl rfl ?_
  refine tm_iload_n X 3 dL_law_786 rfl rfl ?_
  refine tm_iconst X (1 : Int32) dL_law_787 (by decide) ?_
  refine tm_iadd X dL_law_788 ?_
  refine tm_sld hSld hi1 dL_law_789 (he1) ?_
  refine tm_aload_n X 0 dL_law_790 rfl rfl ?_
  refine tm_iload_n X 3 dL_law_791 rfl rfl ?_
  refine tm_iconst X (2 : Int32) dL_law_792 (by decide) ?_
  refine tm_iadd X dL_law_793 ?_
  refine tm_sld hSld hi2 dL_law_794 (he2) ?_
  refine tm_callVL (As := [.int a0, .int a1]) (rest := [.int r]) (q0 := 0) X (ctX5_climb l D am dA hm a0 a1 r hm' e2) (lw_V q1730 q1731 q1732 q122 q1733) cyX5_climb rfl rfl rfl ⟨Nat.le_of_ble_eq_true rfl, Nat.le_of_ble_eq_true rfl⟩ (Nat.le_of_ble_eq_true rfl) dL_law_795 ⟨by omega, by omega⟩ rfl ?_
  refine tm_ic_eqT X 1360 rfl dL_law_798 rfl ?_
  exact fun _ => hK ad tt hx' hm' _ _ rfl e3 (by omega) (by omega)
set_option maxHeartbeats 4000000 in
theorem lc_rolls {G : Gty} {l : Launch} {D : va_G} {dA : Nat → ClassId} {L : Nat} {xs : Nat → Int32} {b : Nat} (X : IsG G l code 4 "HighSpotsLaw" D dA 8192 100000 1200000 5502250) (hSld : ∀ (w : va_W) (ce sl pc : Nat) (lv : List (Nat × Value)) (st : List Value) (i : Int32), vp_in i L → decode code pc = .ok (.iaload, 1) → G w ce sl (pc + 1) lv (.int (xs i.toNatClampNeg) :: st) → G w ce sl pc lv (.int i :: .ref b :: st)) (I : TTy → Hp → Hp → Prop) (hS : St_rolls I) (ad am : Nat → Nat) (tt : TTy) (hx hm : Hp) (hI : I tt hx hm) (ce sl : Nat) (hce : ce + 4000 ≤ 1200000) (hsl : sl + 12000 ≤ 5502250) (x3 : Int32) (hi1 : vp_in (x3 + (1 : Int32)) L) (hi2 : vp_in (x3 + (2 : Int32)) L) (a0 : Int32) (he1 : xs (x3 + (1 : Int32)).toNatClampNeg = a0) (a1 : Int32) (he2 : xs (x3 + (2 : Int32)).toNatClampNeg = a1) (hK : ∀ (ad' : Nat → Nat) (tt' : TTy) (hx' hm' : Hp) (ce' sl' : Nat), ad' 100 = ad 100 → I tt' hx' hm' → ce' ≤ ce + 4000 → sl' ≤ sl + 12000 → G (wX ad' dA tt' hx' ++ wM am dA hm') ce' sl' 1360 [(0, .ref b), (1, .ref (ad 100)), (2, .ref (am 300)), (3, .int x3)] []) : TM G () (some ()) (wX ad dA tt hx ++ wM am dA hm) ce sl 803 [(0, .ref b), (1, .ref (ad 100)), (2, .ref (am 300)), (3, .int x3)] [] := by
  obtain ⟨r, e1, e2, e3⟩ := hS tt hx hm a0 a1 hI
  refine tm_aload_n X 1 dL_law_803 rfl rfl ?_
  refine tm_aload_n X 0 dL_law_804 rfl rfl ?_
  refine tm_iload_n X 3 dL_law_805 rfl rfl ?_
  refine tm_iconst X (1 : Int32) dL_law_806 (by decide) ?_
  refine tm_iadd X dL_law_807 ?_
  refine tm_sld hSld hi1 dL_law_808 (he1) ?_
  refine tm_aload_n X 0 dL_law_809 rfl rfl ?_
  refine tm_iload_n X 3 dL_law_810 rfl rfl ?_
  refine tm_iconst X (2 : Int32) dL_law_811 (by decide) ?_
  refine tm_iadd X dL_law_812 ?_
  refine tm_sld hSld hi2 dL_law_813 (he2) ?_
  refine tm_callVF (As := [.int a0, .int a1]) (rest := []) (q0 := 0) X (ctX0_rolls l D ad dA tt hx a0 a1 r e1) (lw_V q1010 q1011 q1012 q117 q1013) cyX0_rolls rfl rfl rfl ⟨Nat.le_of_ble_eq_true rfl, Nat.le_of_ble_eq_true rfl⟩ (Nat.le_of_ble_eq_true rfl) dL_law_814 ⟨by omega, by omega⟩ rfl ?_
  refine tm_aload_n X 2 dL_law_817 rfl rfl ?_
  refine tm_aload_n X 0 dL_law_818 rfl rfl ?_
  refine tm_iload_n X 3 dL_law_819 rfl rfl ?_
  refine tm_iconst X (1 : Int32) dL_law_820 (by decide) ?_
  refine tm_iadd X dL_law_821 ?_
  refine tm_sld hSld hi1 dL_law_822 (he1) ?_
  refine tm_aload_n X 0 dL_law_823 rfl rfl ?_
  refine tm_iload_n X 3 dL_law_824 rfl rfl ?_
  refine tm_iconst X (2 : Int32) dL_law_825 (by decide) ?_
  refine tm_iadd X dL_law_826 ?_
  refine tm_sld hSld hi2 dL_law_827 (he2) ?_
  refine tm_callVL (As := [.int a0, .int a1]) (rest := [.int r]) (q0 := 0) X (ctX5_rolls l D am dA hm a0 a1 r e2) (lw_V q1738 q1739 q1740 q122 q1741) cyX5_rolls rfl rfl rfl ⟨Nat.le_of_ble_eq_true rfl, Nat.le_of_ble_eq_true rfl⟩ (Nat.le_of_ble_eq_true rfl) dL_law_828 ⟨by omega, by omega⟩ rfl ?_
  refine tm_ic_eqT X 1360 rfl dL_law_831 rfl ?_
  exact fun _ => hK ad tt hx hm _ _ rfl e3 (by omega) (by omega)
set_option maxHeartbeats 4000000 in
theorem lc_pieces {G : Gty} {l : Launch} {D : va_G} {dA : Nat → ClassId} {L : Nat} {xs : Nat → Int32} {b : Nat} (X : IsG G l code 4 "HighSpotsLaw" D dA 8192 100000 1200000 5502250) (hSld : ∀ (w : va_W) (ce sl pc : Nat) (lv : List (Nat × Value)) (st : List Value) (i : Int32), vp_in i L → decode code pc = .ok (.iaload, 1) → G w ce sl (pc + 1) lv (.int (xs i.toNatClampNeg) :: st) → G w ce sl pc lv (.int i :: .ref b :: st)) (I : TTy → Hp → Hp → Prop) (hS : St_pieces I) (ad am : Nat → Nat) (tt : TTy) (hx hm : Hp) (hI : I tt hx hm) (ce sl : Nat) (hce : ce + 4000 ≤ 1200000) (hsl : sl + 12000 ≤ 5502250) (x3 : Int32) (hi1 : vp_in (x3 + (1 : Int32)) L) (hi2 : vp_in (x3 + (2 : Int32)) L) (hi3 : vp_in (x3 + (3 : Int32)) L) (a0 : Int32) (he1 : xs (x3 + (1 : Int32)).toNatClampNeg = a0) (a1 : Int32) (he2 : xs (x3 + (2 : Int32)).toNatClampNeg = a1) (a2 : Int32) (he3 : xs (x3 + (3 : Int32)).toNatClampNeg = a2) (hK : ∀ (ad' : Nat → Nat) (tt' : TTy) (hx' hm' : Hp) (ce' sl' : Nat), ad' 100 = ad 100 → I tt' hx' hm' → ce' ≤ ce + 4000 → sl' ≤ sl + 12000 → G (wX ad' dA tt' hx' ++ wM am dA hm') ce' sl' 1360 [(0, .ref b), (1, .ref (ad 100)), (2, .ref (am 300)), (3, .int x3)] []) : TM G () (some ()) (wX ad dA tt hx ++ wM am dA hm) ce sl 836 [(0, .ref b), (1, .ref (ad 100)), (2, .ref (am 300)), (3, .int x3)] [] := by
  obtain ⟨r, hx', hm', e1, e2, e3⟩ := hS tt hx hm a0 a1 a2 hI
  refine tm_aload_n X 1 dL_law_836 rfl rfl ?_
  refine tm_aload_n X 0 dL_law_837 rfl rfl ?_
  refine tm_iload_n X 3 dL_law_838 rfl rfl ?_
  refine tm_iconst X (1 : Int32) dL_law_839 (by decide) ?_
  refine tm_iadd X dL_law_840 ?_
  refine tm_sld hSld hi1 dL_law_841 (he1) ?_
  refine tm_aload_n X 0 dL_law_842 rfl rfl ?_
  refine tm_iload_n X 3 dL_law_843 rfl rfl ?_
  refine tm_iconst X (2 : Int32) dL_law_844 (by decide) ?_
  refine tm_iadd X dL_law_845 ?_
  refine tm_sld hSld hi2 dL_law_846 (he2) ?_
  refine tm_aload_n X 0 dL_law_847 rfl rfl ?_
  refine tm_iload_n X 3 dL_law_848 rfl rfl ?_
  refine tm_iconst X (3 : Int32) dL_law_849 (by decide) ?_
  refine tm_iadd X dL_law_850 ?_
  refine tm_sld hSld hi3 dL_law_851 (he3) ?_
  refine tm_callVF (As := [.int a0, .int a1, .int a2]) (rest := []) (q0 := 0) X (ctX0_pieces l D ad dA tt hx a0 a1 a2 r hx' e1) (lw_V q1018 q1019 q1020 q117 q1021) cyX0_pieces rfl rfl rfl ⟨Nat.le_of_ble_eq_true rfl, Nat.le_of_ble_eq_true rfl⟩ (Nat.le_of_ble_eq_true rfl) dL_law_852 ⟨by omega, by omega⟩ rfl ?_
  refine tm_aload_n X 2 dL_law_855 rfl rfl ?_
  refine tm_aload_n X 0 dL_law_856 rfl rfl ?_
  refine tm_iload_n X 3 dL_law_857 rfl rfl ?_
  refine tm_iconst X (1 : Int32) dL_law_858 (by decide) ?_
  refine tm_iadd X dL_law_859 ?_
  refine tm_sld hSld hi1 dL_law_860 (he1) ?_
  refine tm_aload_n X 0 dL_law_861 rfl rfl ?_
  refine tm_iload_n X 3 dL_law_862 rfl rfl ?_
  refine tm_iconst X (2 : Int32) dL_law_863 (by decide) ?_
  refine tm_iadd X dL_law_864 ?_
  refine tm_sld hSld hi2 dL_law_865 (he2) ?_
  refine tm_aload_n X 0 dL_law_866 rfl rfl ?_
  refine tm_iload_n X 3 dL_law_867 rfl rfl ?_
  refine tm_iconst X (3 : Int32) dL_law_868 (by decide) ?_
  refine tm_iadd X dL_law_869 ?_
  refine tm_sld hSld hi3 dL_law_870 (he3) ?_
  refine tm_callVL (As := [.int a0, .int a1, .int a2]) (rest := [.int r]) (q0 := 0) X (ctX5_pieces l D am dA hm a0 a1 a2 r hm' e2) (lw_V q1654 q1655 q1656 q122 q1657) cyX5_pieces rfl rfl rfl ⟨Nat.le_of_ble_eq_true rfl, Nat.le_of_ble_eq_true rfl⟩ (Nat.le_of_ble_eq_true rfl) dL_law_871 ⟨by omega, by omega⟩ rfl ?_
  refine tm_ic_eqT X 1360 rfl dL_law_874 rfl ?_
  exact fun _ => hK ad tt hx' hm' _ _ rfl e3 (by omega) (by omega)
set_option maxHeartbeats 4000000 in
theorem lc_rocks {G : Gty} {l : Launch} {D : va_G} {dA : Nat → ClassId} {L : Nat} {xs : Nat → Int32} {b : Nat} (X : IsG G l code 4 "HighSpotsLaw" D dA 8192 100000 1200000 5502250) (hSld : ∀ (w : va_W) (ce sl pc : Nat) (lv : List (Nat × Value)) (st : List Value) (i : Int32), vp_in i L → decode code pc = .ok (.iaload, 1) → G w ce sl (pc + 1) lv (.int (xs i.toNatClampNeg) :: st) → G w ce sl pc lv (.int i :: .ref b :: st)) (I : TTy → Hp → Hp → Prop) (hS : St_rocks I) (ad am : Nat → Nat) (tt : TTy) (hx hm : Hp) (hI : I tt hx hm) (ce sl : Nat) (hce : ce + 4000 ≤ 1200000) (hsl : sl + 12000 ≤ 5502250) (x3 : Int32) (hK : ∀ (ad' : Nat → Nat) (tt' : TTy) (hx' hm' : Hp) (ce' sl' : Nat), ad' 100 = ad 100 → I tt' hx' hm' → ce' ≤ ce + 4000 → sl' ≤ sl + 12000 → G (wX ad' dA tt' hx' ++ wM am dA hm') ce' sl' 1360 [(0, .ref b), (1, .ref (ad 100)), (2, .ref (am 300)), (3, .int x3)] []) : TM G () (some ()) (wX ad dA tt hx ++ wM am dA hm) ce sl 879 [(0, .ref b), (1, .ref (ad 100)), (2, .ref (am 300)), (3, .int x3)] [] := by
  obtain ⟨r, hx', hm', e1, e2, e3⟩ := hS tt hx hm hI
  refine tm_aload_n X 1 dL_law_879 rfl rfl ?_
  refine tm_callVF (As := []) (rest := []) (q0 := 0) X (ctX0_rocks l D ad dA tt hx r hx' e1) (lw_V q912 q913 q914 q117 q915) cyX0_rocks rfl rfl rfl ⟨Nat.le_of_ble_eq_true rfl, Nat.le_of_ble_eq_true rfl⟩ (Nat.le_of_ble_eq_true rfl) dL_law_880 ⟨by omega, by omega⟩ rfl ?_
  refine tm_aload_n X 2 dL_law_883 rfl rfl ?_
  refine tm_callVL (As := []) (rest := [.int r]) (q0 := 0) X (ctX5_rocks l D am dA hm r hm' e2) (lw_V q1681 q1682 q1683 q122 q1684) cyX5_rocks rfl rfl rfl ⟨Nat.le_of_ble_eq_true rfl, Nat.le_of_ble_eq_true rfl⟩ (Nat.le_of_ble_eq_true rfl) dL_law_884 ⟨by omega, by omega⟩ rfl ?_
  refine tm_ic_eqT X 1360 rfl dL_law_887 rfl ?_
  exact fun _ => hK ad tt hx' hm' _ _ rfl e3 (by omega) (by omega)
set_option maxHeartbeats 4000000 in
theorem lc_lean {G : Gty} {l : Launch} {D : va_G} {dA : Nat → ClassId} {L : Nat} {xs : Nat → Int32} {b : Nat} (X : IsG G l code 4 "HighSpotsLaw" D dA 8192 100000 1200000 5502250) (hSld : ∀ (w : va_W) (ce sl pc : Nat) (lv : List (Nat × Value)) (st : List Value) (i : Int32), vp_in i L → decode code pc = .ok (.iaload, 1) → G w ce sl (pc + 1) lv (.int (xs i.toNatClampNeg) :: st) → G w ce sl pc lv (.int i :: .ref b :: st)) (I : TTy → Hp → Hp → Prop) (hS : St_lean I) (ad am : Nat → Nat) (tt : TTy) (hx hm : Hp) (hI : I tt hx hm) (ce sl : Nat) (hce : ce + 4000 ≤ 1200000) (hsl : sl + 12000 ≤ 5502250) (x3 : Int32) (hi1 : vp_in (x3 + (1 : Int32)) L) (a0 : Int32) (he1 : xs (x3 + (1 : Int32)).toNatClampNeg = a0) (hK : ∀ (ad' : Nat → Nat) (tt' : TTy) (hx' hm' : Hp) (ce' sl' : Nat), ad' 100 = ad 100 → I tt' hx' hm' → ce' ≤ ce + 4000 → sl' ≤ sl + 12000 → G (wX ad' dA tt' hx' ++ wM am dA hm') ce' sl' 1360 [(0, .ref b), (1, .ref (ad 100)), (2, .ref (am 300)), (3, .int x3)] []) : TM G () (some ()) (wX ad dA tt hx ++ wM am dA hm) ce sl 892 [(0, .ref b), (1, .ref (ad 100)), (2, .ref (am 300)), (3, .int x3)] [] := by
  obtain ⟨r, hx', e1, e2, e3⟩ := hS tt hx hm a0 hI
  refine tm_aload_n X 1 dL_law_892 rfl rfl ?_
  refine tm_aload_n X 0 dL_law_893 rfl rfl ?_
  refine tm_iload_n X 3 dL_law_894 rfl rfl ?_
  refine tm_iconst X (1 : Int32) dL_law_895 (by decide) ?_
  refine tm_iadd X dL_law_896 ?_
  refine tm_sld hSld hi1 dL_law_897 (he1) ?_
  refine tm_callVF (As := [.int a0]) (rest := []) (q0 := 0) X (ctX0_lean l D ad dA tt hx a0 r hx' e1) (lw_V q962 q963 q964 q117 q965) cyX0_lean rfl rfl rfl ⟨Nat.le_of_ble_eq_true rfl, Nat.le_of_ble_eq_true rfl⟩ (Nat.le_of_ble_eq_true rfl) dL_law_898 ⟨by omega, by omega⟩ rfl ?_
  refine tm_aload_n X 2 dL_law_901 rfl rfl ?_
  refine tm_aload_n X 0 dL_law_902 rfl rfl ?_
  refine tm_iload_n X 3 dL_law_903 rfl rfl ?_
  refine tm_iconst X (1 : Int32) dL_law_904 (by decide) ?_
  refine tm_iadd X dL_law_905 ?_
  refine tm_sld hSld hi1 dL_law_906 (he1) ?_
  refine tm_callVL (As := [.int a0]) (rest := [.int r]) (q0 := 0) X (ctX5_lean l D am dA hm a0 r e2) (lw_V q1697 q1698 q1699 q122 q1700) cyX5_lean rfl rfl rfl ⟨Nat.le_of_ble_eq_true rfl, Nat.le_of_ble_eq_true rfl⟩ (Nat.le_of_ble_eq_true rfl) dL_law_907 ⟨by omega, by omega⟩ rfl ?_
  refine tm_ic_eqT X 1360 rfl dL_law_910 rfl ?_
  exact fun _ => hK ad tt hx' hm _ _ rfl e3 (by omega) (by omega)
set_option maxHeartbeats 4000000 in
theorem lc_splint {G : Gty} {l : Launch} {D : va_G} {dA : Nat → ClassId} {L : Nat} {xs : Nat → Int32} {b : Nat} (X : IsG G l code 4 "HighSpotsLaw" D dA 8192 100000 1200000 5502250) (hSld : ∀ (w : va_W) (ce sl pc : Nat) (lv : List (Nat × Value)) (st : List Value) (i : Int32), vp_in i L → decode code pc = .ok (.iaload, 1) → G w ce sl (pc + 1) lv (.int (xs i.toNatClampNeg) :: st) → G w ce sl pc lv (.int i :: .ref b :: st)) (I : TTy → Hp → Hp → Prop) (hS : St_splint I) (ad am : Nat → Nat) (tt : TTy) (hx hm : Hp) (hI : I tt hx hm) (ce sl : Nat) (hce : ce + 4000 ≤ 1200000) (hsl : sl + 12000 ≤ 5502250) (x3 : Int32) (hi1 : vp_in (x3 + (1 : Int32)) L) (hi2 : vp_in (x3 + (2 : Int32)) L) (a0 : Int32) (he1 : xs (x3 + (1 : Int32)).toNatClampNeg = a0) (a1 : Int32) (he2 : xs (x3 + (2 : Int32)).toNatClampNeg = a1) (hK : ∀ (ad' : Nat → Nat) (tt' : TTy) (hx' hm' : Hp) (ce' sl' : Nat), ad' 100 = ad 100 → I tt' hx' hm' → ce' ≤ ce + 4000 → sl' ≤ sl + 12000 → G (wX ad' dA tt' hx' ++ wM am dA hm') ce' sl' 1360 [(0, .ref b), (1, .ref (ad 100)), (2, .ref (am 300)), (3, .int x3)] []) : TM G () (some ()) (wX ad dA tt hx ++ wM am dA hm) ce sl 915 [(0, .ref b), (1, .ref (ad 100)), (2, .ref (am 300)), (3, .int x3)] [] := by
  obtain ⟨r, e1, e2, e3⟩ := hS tt hx hm a0 a1 hI
  refine tm_aload_n X 1 dL_law_915 rfl rfl ?_
  refine tm_aload_n X 0 dL_law_916 rfl rfl ?_
  refine tm_iload_n X 3 dL_law_917 rfl rfl ?_
  refine tm_iconst X (1 : Int32) dL_law_918 (by decide) ?_
  refine tm_iadd X dL_law_919 ?_
  refine tm_sld hSld hi1 dL_law_920 (he1) ?_
  refine tm_aload_n X 0 dL_law_921 rfl rfl ?_
  refine tm_iload_n X 3 dL_law_922 rfl rfl ?_
  refine tm_iconst X (2 : Int32) dL_law_923 (by decide) ?_
  refine tm_iadd X dL_law_924 ?_
  refine tm_sld hSld hi2 dL_law_925 (he2) ?_
  refine tm_callVF (As := [.int a0, .int a1]) (rest := []) (q0 := 0) X (ctX0_splint l D ad dA tt hx a0 a1 r e1) (lw_V q978 q979 q980 q117 q981) cyX0_splint rfl rfl rfl ⟨Nat.le_of_ble_eq_true rfl, Nat.le_of_ble_eq_true rfl⟩ (Nat.le_of_ble_eq_true rfl) dL_law_926 ⟨by omega, by omega⟩ rfl ?_
  refine tm_aload_n X 2 dL_law_929 rfl rfl ?_
  refine tm_aload_n X 0 dL_law_930 rfl rfl ?_
  refine tm_iload_n X 3 dL_law_931 rfl rfl ?_
  refine tm_iconst X (1 : Int32) dL_law_932 (by decide) ?_
  refine tm_iadd X dL_law_933 ?_
  refine tm_sld hSld hi1 dL_law_934 (he1) ?_
  refine tm_aload_n X 0 dL_law_935 rfl rfl ?_
  refine tm_iload_n X 3 dL_law_936 rfl rfl ?_
  refine tm_iconst X (2 : Int32) dL_law_937 (by decide) ?_
  refine tm_iadd X dL_law_938 ?_
  refine tm_sld hSld hi2 dL_law_939 (he2) ?_
  refine tm_callVL (As := [.int a0, .int a1]) (rest := [.int r]) (q0 := 0) X (ctX5_splint l D am dA hm a0 a1 r e2) (lw_V q1706 q1707 q1708 q122 q1709) cyX5_splint rfl rfl rfl ⟨Nat.le_of_ble_eq_true rfl, Nat.le_of_ble_eq_true rfl⟩ (Nat.le_of_ble_eq_true rfl) dL_law_940 ⟨by omega, by omega⟩ rfl ?_
  refine tm_ic_eqT X 1360 rfl dL_law_943 rfl ?_
  exact fun _ => hK ad tt hx hm _ _ rfl e3 (by omega) (by omega)
set_option maxHeartbeats 4000000 in
theorem lc_turnedOver {G : Gty} {l : Launch} {D : va_G} {dA : Nat → ClassId} {L : Nat} {xs : Nat → Int32} {b : Nat} (X : IsG G l code 4 "HighSpotsLaw" D dA 8192 100000 1200000 5502250) (hSld : ∀ (w : va_W) (ce sl pc : Nat) (lv : List (Nat × Value)) (st : List Value) (i : Int32), vp_in i L → decode code pc = .ok (.iaload, 1) → G w ce sl (pc + 1) lv (.int (xs i.toNatClampNeg) :: st) → G w ce sl pc lv (.int i :: .ref b :: st)) (I : TTy → Hp → Hp → Prop) (hS : St_turnedOver I) (ad am : Nat → Nat) (tt : TTy) (hx hm : Hp) (hI : I tt hx hm) (ce sl : Nat) (hce : ce + 4000 ≤ 1200000) (hsl : sl + 12000 ≤ 5502250) (x3 : Int32) (hi1 : vp_in (x3 + (1 : Int32)) L) (a0 : Int32) (he1 : xs (x3 + (1 : Int32)).toNatClampNeg = a0) (hK : ∀ (ad' : Nat → Nat) (tt' : TTy) (hx' hm' : Hp) (ce' sl' : Nat), ad' 100 = ad 100 → I tt' hx' hm' → ce' ≤ ce + 4000 → sl' ≤ sl + 12000 → G (wX ad' dA tt' hx' ++ wM am dA hm') ce' sl' 1360 [(0, .ref b), (1, .ref (ad 100)), (2, .ref (am 300)), (3, .int x3)] []) : TM G () (some ()) (wX ad dA tt hx ++ wM am dA hm) ce sl 948 [(0, .ref b), (1, .ref (ad 100)), (2, .ref (am 300)), (3, .int x3)] [] := by
  obtain ⟨r, hx', e1, e2, e3⟩ := hS tt hx hm a0 hI
  refine tm_aload_n X 1 dL_law_948 rfl rfl ?_
  refine tm_aload_n X 0 dL_law_949 rfl rfl ?_
  refine tm_iload_n X 3 dL_law_950 rfl rfl ?_
  refine tm_iconst X (1 : Int32) dL_law_951 (by decide) ?_
  refine tm_iadd X dL_law_952 ?_
  refine tm_sld hSld hi1 dL_law_953 (he1) ?_
  refine tm_callVF (As := [.int a0]) (rest := []) (q0 := 0) X (ctX0_turnedOver l D ad dA tt hx a0 r hx' e1) (lw_V q982 q983 q984 q117 q985) cyX0_turnedOver rfl rfl rfl ⟨Nat.le_of_ble_eq_true rfl, Nat.le_of_ble_eq_true rfl⟩ (Nat.le_of_ble_eq_true rfl) dL_law_954 ⟨by omega, by omega⟩ rfl ?_
  refine tm_aload_n X 2 dL_law_957 rfl rfl ?_
  refine tm_aload_n X 0 dL_law_958 rfl rfl ?_
  refine tm_iload_n X 3 dL_law_959 rfl rfl ?_
  refine tm_iconst X (1 : Int32) dL_law_960 (by decide) ?_
  refine tm_iadd X dL_law_961 ?_
  refine tm_sld hSld hi1 dL_law_962 (he1) ?_
  refine tm_callVL (As := [.int a0]) (rest := [.int r]) (q0 := 0) X (ctX5_turnedOver l D am dA hm a0 r e2) (lw_V q1710 q1711 q1712 q122 q1713) cyX5_turnedOver rfl rfl rfl ⟨Nat.le_of_ble_eq_true rfl, Nat.le_of_ble_eq_true rfl⟩ (Nat.le_of_ble_eq_true rfl) dL_law_963 ⟨by omega, by omega⟩ rfl ?_
  refine tm_ic_eqT X 1360 rfl dL_law_966 rfl ?_
  exact fun _ => hK ad tt hx' hm _ _ rfl e3 (by omega) (by omega)
set_option maxHeartbeats 4000000 in
theorem lc_castIs {G : Gty} {l : Launch} {D : va_G} {dA : Nat → ClassId} {L : Nat} {xs : Nat → Int32} {b : Nat} (X : IsG G l code 4 "HighSpotsLaw" D dA 8192 100000 1200000 5502250) (hSld : ∀ (w : va_W) (ce sl pc : Nat) (lv : List (Nat × Value)) (st : List Value) (i : Int32), vp_in i L → decode code pc = .ok (.iaload, 1) → G w ce sl (pc + 1) lv (.int (xs i.toNatClampNeg) :: st) → G w ce sl pc lv (.int i :: .ref b :: st)) (I : TTy → Hp → Hp → Prop) (hS : St_castIs I) (ad am : Nat → Nat) (tt : TTy) (hx hm : Hp) (hI : I tt hx hm) (ce sl : Nat) (hce : ce + 4000 ≤ 1200000) (hsl : sl + 12000 ≤ 5502250) (x3 : Int32) (hi1 : vp_in (x3 + (1 : Int32)) L) (hi2 : vp_in (x3 + (2 : Int32)) L) (a0 : Int32) (he1 : xs (x3 + (1 : Int32)).toNatClampNeg = a0) (a1 : Int32) (he2 : xs (x3 + (2 : Int32)).toNatClampNeg = a1) (hK : ∀ (ad' : Nat → Nat) (tt' : TTy) (hx' hm' : Hp) (ce' sl' : Nat), ad' 100 = ad 100 → I tt' hx' hm' → ce' ≤ ce + 4000 → sl' ≤ sl + 12000 → G (wX ad' dA tt' hx' ++ wM am dA hm') ce' sl' 1360 [(0, .ref b), (1, .ref (ad 100)), (2, .ref (am 300)), (3, .int x3)] []) : TM G () (some ()) (wX ad dA tt hx ++ wM am dA hm) ce sl 971 [(0, .ref b), (1, .ref (ad 100)), (2, .ref (am 300)), (3, .int x3)] [] := by
  obtain ⟨r, e1, e2, e3⟩ := hS tt hx hm a0 a1 hI
  refine tm_aload_n X 1 dL_law_971 rfl rfl ?_
  refine tm_aload_n X 0 dL_law_972 rfl rfl ?_
  refine tm_iload_n X 3 dL_law_973 rfl rfl ?_
  refine tm_iconst X (1 : Int32) dL_law_974 (by decide) ?_
  refine tm_iadd X dL_law_975 ?_
  refine tm_sld hSld hi1 dL_law_976 (he1) ?_
  refine tm_aload_n X 0 dL_law_977 rfl rfl ?_
  refine tm_iload_n X 3 dL_law_978 rfl rfl ?_
  refine tm_iconst X (2 : Int32) dL_law_979 (by decide) ?_
  refine tm_iadd X dL_law_980 ?_
  refine tm_sld hSld hi2 dL_law_981 (he2) ?_
  refine tm_callVF (As := [.int a0, .int a1]) (rest := []) (q0 := 0) X (ctX0_castIs l D ad dA tt hx a0 a1 r e1) (lw_V q986 q987 q988 q117 q989) cyX0_castIs rfl rfl rfl ⟨Nat.le_of_ble_eq_true rfl, Nat.le_of_ble_eq_true rfl⟩ (Nat.le_of_ble_eq_true rfl) dL_law_982 ⟨by omega, by omega⟩ rfl ?_
  refine tm_aload_n X 2 dL_law_985 rfl rfl ?_
  refine tm_aload_n X 0 dL_law_986 rfl rfl ?_
  refine tm_iload_n X 3 dL_law_987 rfl rfl ?_
  refine tm_iconst X (1 : Int32) dL_law_988 (by decide) ?_
  refine tm_iadd X dL_law_989 ?_
  refine tm_sld hSld hi1 dL_law_990 (he1) ?_
  refine tm_aload_n X 0 dL_law_991 rfl rfl ?_
  refine tm_iload_n X 3 dL_law_992 rfl rfl ?_
  refine tm_iconst X (2 : Int32) dL_law_993 (by decide) ?_
  refine tm_iadd X dL_law_994 ?_
  refine tm_sld hSld hi2 dL_law_995 (he2) ?_
  refine tm_callVL (As := [.int a0, .int a1]) (rest := [.int r]) (q0 := 0) X (ctX5_castIs l D am dA hm a0 a1 r e2) (lw_V q1714 q1715 q1716 q122 q1717) cyX5_castIs rfl rfl rfl ⟨Nat.le_of_ble_eq_true rfl, Nat.le_of_ble_eq_true rfl⟩ (Nat.le_of_ble_eq_true rfl) dL_law_996 ⟨by omega, by omega⟩ rfl ?_
  refine tm_ic_eqT X 1360 rfl dL_law_999 rfl ?_
  exact fun _ => hK ad tt hx hm _ _ rfl e3 (by omega) (by omega)
set_option maxHeartbeats 4000000 in
theorem lc_heightOf {G : Gty} {l : Launch} {D : va_G} {dA : Nat → ClassId} {L : Nat} {xs : Nat → Int32} {b : Nat} (X : IsG G l code 4 "HighSpotsLaw" D dA 8192 100000 1200000 5502250) (hSld : ∀ (w : va_W) (ce sl pc : Nat) (lv : List (Nat × Value)) (st : List Value) (i : Int32), vp_in i L → decode code pc = .ok (.iaload, 1) → G w ce sl (pc + 1) lv (.int (xs i.toNatClampNeg) :: st) → G w ce sl pc lv (.int i :: .ref b :: st)) (I : TTy → Hp → Hp → Prop) (hS : St_heightOf I) (ad am : Nat → Nat) (tt : TTy) (hx hm : Hp) (hI : I tt hx hm) (ce sl : Nat) (hce : ce + 4000 ≤ 1200000) (hsl : sl + 12000 ≤ 5502250) (x3 : Int32) (hi1 : vp_in (x3 + (1 : Int32)) L) (hi2 : vp_in (x3 + (2 : Int32)) L) (a0 : Int32) (he1 : xs (x3 + (1 : Int32)).toNatClampNeg = a0) (a1 : Int32) (he2 : xs (x3 + (2 : Int32)).toNatClampNeg = a1) (hK : ∀ (ad' : Nat → Nat) (tt' : TTy) (hx' hm' : Hp) (ce' sl' : Nat), ad' 100 = ad 100 → I tt' hx' hm' → ce' ≤ ce + 4000 → sl' ≤ sl + 12000 → G (wX ad' dA tt' hx' ++ wM am dA hm') ce' sl' 1360 [(0, .ref b), (1, .ref (ad 100)), (2, .ref (am 300)), (3, .int x3)] []) : TM G () (some ()) (wX ad dA tt hx ++ wM am dA hm) ce sl 1004 [(0, .ref b), (1, .ref (ad 100)), (2, .ref (am 300)), (3, .int x3)] [] := by
  obtain ⟨r, e1, e2, e3⟩ := hS tt hx hm a0 a1 hI
  refine tm_aload_n X 1 dL_law_1004 rfl rfl ?_
  refine tm_aload_n X 0 dL_law_1005 rfl rfl ?_
  refine tm_iload_n X 3 dL_law_1006 rfl rfl ?_
  refine tm_iconst X (1 : Int32) dL_law_1007 (by decide) ?_
  refine tm_iadd X dL_law_1008 ?_
  refine tm_sld hSld hi1 dL_law_1009 (he1) ?_
  refine tm_aload_n X 0 dL_law_1010 rfl rfl ?_
  refine tm_iload_n X 3 dL_law_1011 rfl rfl ?_
  refine tm_iconst X (2 : Int32) dL_law_1012 (by decide) ?_
  refine tm_iadd X dL_law_1013 ?_
  refine tm_sld hSld hi2 dL_law_1014 (he2) ?_
  refine tm_callVF (As := [.int a0, .int a1]) (rest := []) (q0 := 0) X (ctX0_heightOf l D ad dA tt hx a0 a1 r e1) (lw_V q1022 q1023 q1024 q117 q1025) cyX0_heightOf rfl rfl rfl ⟨Nat.le_of_ble_eq_true rfl, Nat.le_of_ble_eq_true rfl⟩ (Nat.le_of_ble_eq_true rfl) dL_law_1015 ⟨by omega, by omega⟩ rfl ?_
  refine tm_aload_n X 2 dL_law_1018 rfl rfl ?_
  refine tm_aload_n X 0 dL_law_1019 rfl rfl ?_
  refine tm_iload_n X 3 dL_law_1020 rfl rfl ?_
  refine tm_iconst X (1 : Int32) dL_law_1021 (by decide) ?_
  refine tm_iadd X dL_law_1022 ?_
  refine tm_sld hSld hi1 dL_law_1023 (he1) ?_
  refine tm_aload_n X 0 dL_law_1024 rfl rfl ?_
  refine tm_iload_n X 3 dL_law_1025 rfl rfl ?_
  refine tm_iconst X (2 : Int32) dL_law_1026 (by decide) ?_
  refine tm_iadd X dL_law_1027 ?_
  refine tm_sld hSld hi2 dL_law_1028 (he2) ?_
  refine tm_callVL (As := [.int a0, .int a1]) (rest := [.int r]) (q0 := 0) X (ctX5_heightOf l D am dA hm a0 a1 r e2) (lw_V q1372 q1373 q1374 q122 q1375) cyX5_heightOf rfl rfl rfl ⟨Nat.le_of_ble_eq_true rfl, Nat.le_of_ble_eq_true rfl⟩ (Nat.le_of_ble_eq_true rfl) dL_law_1029 ⟨by omega, by omega⟩ rfl ?_
  refine tm_ic_eqT X 1360 rfl dL_law_1032 rfl ?_
  exact fun _ => hK ad tt hx hm _ _ rfl e3 (by omega) (by omega)
set_option maxHeartbeats 4000000 in
theorem lc_pools {G : Gty} {l : Launch} {D : va_G} {dA : Nat → ClassId} {L : Nat} {xs : Nat → Int32} {b : Nat} (X : IsG G l code 4 "HighSpotsLaw" D dA 8192 100000 1200000 5502250) (hSld : ∀ (w : va_W) (ce sl pc : Nat) (lv : List (Nat × Value)) (st : List Value) (i : Int32), vp_in i L → decode code pc = .ok (.iaload, 1) → G w ce sl (pc + 1) lv (.int (xs i.toNatClampNeg) :: st) → G w ce sl pc lv (.int i :: .ref b :: st)) (I : TTy → Hp → Hp → Prop) (hS : St_pools I) (ad am : Nat → Nat) (tt : TTy) (hx hm : Hp) (hI : I tt hx hm) (ce sl : Nat) (hce : ce + 4000 ≤ 1200000) (hsl : sl + 12000 ≤ 5502250) (x3 : Int32) (hi1 : vp_in (x3 + (1 : Int32)) L) (hi2 : vp_in (x3 + (2 : Int32)) L) (a0 : Int32) (he1 : xs (x3 + (1 : Int32)).toNatClampNeg = a0) (a1 : Int32) (he2 : xs (x3 + (2 : Int32)).toNatClampNeg = a1) (hK : ∀ (ad' : Nat → Nat) (tt' : TTy) (hx' hm' : Hp) (ce' sl' : Nat), ad' 100 = ad 100 → I tt' hx' hm' → ce' ≤ ce + 4000 → sl' ≤ sl + 12000 → G (wX ad' dA tt' hx' ++ wM am dA hm') ce' sl' 1360 [(0, .ref b), (1, .ref (ad 100)), (2, .ref (am 300)), (3, .int x3)] []) : TM G () (some ()) (wX ad dA tt hx ++ wM am dA hm) ce sl 1037 [(0, .ref b), (1, .ref (ad 100)), (2, .ref (am 300)), (3, .int x3)] [] := by
  obtain ⟨r, hx', hm', e1, e2, e3⟩ := hS tt hx hm a0 a1 hI
  refine tm_aload_n X 1 dL_law_1037 rfl rfl ?_
  refine tm_aload_n X 0 dL_law_1038 rfl rfl ?_
  refine tm_iload_n X 3 dL_law_1039 rfl rfl ?_
  refine tm_iconst X (1 : Int32) dL_law_1040 (by decide) ?_
  refine tm_iadd X dL_law_1041 ?_
  refine tm_sld hSld hi1 dL_law_1042 (he1) ?_
  refine tm_aload_n X 0 dL_law_1043 rfl rfl ?_
  refine tm_iload_n X 3 dL_law_1044 rfl rfl ?_
  refine tm_iconst X (2 : Int32) dL_law_1045 (by decide) ?_
  refine tm_iadd X dL_law_1046 ?_
  refine tm_sld hSld hi2 dL_law_1047 (he2) ?_
  refine tm_callVF (As := [.int a0, .int a1]) (rest := []) (q0 := 0) X (ctX0_pools l D ad dA tt hx a0 a1 r hx' e1) (lw_V q1026 q1027 q1028 q117 q1029) cyX0_pools rfl rfl rfl ⟨Nat.le_of_ble_eq_true rfl, Nat.le_of_ble_eq_true rfl⟩ (Nat.le_of_ble_eq_true rfl) dL_law_1048 ⟨by omega, by omega⟩ rfl ?_
  refine tm_aload_n X 2 dL_law_1051 rfl rfl ?_
  refine tm_aload_n X 0 dL_law_1052 rfl rfl ?_
  refine tm_iload_n X 3 dL_law_1053 rfl rfl ?_
  refine tm_iconst X (1 : Int32) dL_law_1054 (by decide) ?_
  refine tm_iadd X dL_law_1055 ?_
  refine tm_sld hSld hi1 dL_law_1056 (he1) ?_
  refine tm_aload_n X 0 dL_law_1057 rfl rfl ?_
  refine tm_iload_n X 3 dL_law_1058 rfl rfl ?_
  refine tm_iconst X (2 : Int32) dL_law_1059 (by decide) ?_
  refine tm_iadd X dL_law_1060 ?_
  refine tm_sld hSld hi2 dL_law_1061 (he2) ?_
  refine tm_callVL (As := [.int a0, .int a1]) (rest := [.int r]) (q0 := 0) X (ctX5_pools l D am dA hm a0 a1 r hm' e2) (lw_V q1746 q1747 q1748 q122 q1749) cyX5_pools rfl rfl rfl ⟨Nat.le_of_ble_eq_true rfl, Nat.le_of_ble_eq_true rfl⟩ (Nat.le_of_ble_eq_true rfl) dL_law_1062 ⟨by omega, by omega⟩ rfl ?_
  refine tm_ic_eqT X 1360 rfl dL_law_1065 rfl ?_
  exact fun _ => hK ad tt hx' hm' _ _ rfl e3 (by omega) (by omega)
set_option maxHeartbeats 4000000 in
theorem lc_belongs {G : Gty} {l : Launch} {D : va_G} {dA : Nat → ClassId} {L : Nat} {xs : Nat → Int32} {b : Nat} (X : IsG G l code 4 "HighSpotsLaw" D dA 8192 100000 1200000 5502250) (hSld : ∀ (w : va_W) (ce sl pc : Nat) (lv : List (Nat × Value)) (st : List Value) (i : Int32), vp_in i L → decode code pc = .ok (.iaload, 1) → G w ce sl (pc + 1) lv (.int (xs i.toNatClampNeg) :: st) → G w ce sl pc lv (.int i :: .ref b :: st)) (I : TTy → Hp → Hp → Prop) (hS : St_belongs I) (ad am : Nat → Nat) (tt : TTy) (hx hm : Hp) (hI : I tt hx hm) (ce sl : Nat) (hce : ce + 4000 ≤ 1200000) (hsl : sl + 12000 ≤ 5502250) (x3 : Int32) (hi1 : vp_in (x3 + (1 : Int32)) L) (hi2 : vp_in (x3 + (2 : Int32)) L) (hi3 : vp_in (x3 + (3 : Int32)) L) (a0 : Int32) (he1 : xs (x3 + (1 : Int32)).toNatClampNeg = a0) (a1 : Int32) (he2 : xs (x3 + (2 : Int32)).toNatClampNeg = a1) (a2 : Int32) (he3 : xs (x3 + (3 : Int32)).toNatClampNeg = a2) (hK : ∀ (ad' : Nat → Nat) (tt' : TTy) (hx' hm' : Hp) (ce' sl' : Nat), ad' 100 = ad 100 → I tt' hx' hm' → ce' ≤ ce + 4000 → sl' ≤ sl + 12000 → G (wX ad' dA tt' hx' ++ wM am dA hm') ce' sl' 1360 [(0, .ref b), (1, .ref (ad 100)), (2, .ref (am 300)), (3, .int x3)] []) : TM G () (some ()) (wX ad dA tt hx ++ wM am dA hm) ce sl 1070 [(0, .ref b), (1, .ref (ad 100)), (2, .ref (am 300)), (3, .int x3)] [] := by
  obtain ⟨r, hx', hm', e1, e2, e3⟩ := hS tt hx hm a0 a1 a2 hI
  refine tm_aload_n X 1 dL_law_1070 rfl rfl ?_
  refine tm_aload_n X 0 dL_law_1071 rfl rfl ?_
  refine tm_iload_n X 3 dL_law_1072 rfl rfl ?_
  refine tm_iconst X (1 : Int32) dL_law_1073 (by decide) ?_
  refine tm_iadd X dL_law_1074 ?_
  refine tm_sld hSld hi1 dL_law_1075 (he1) ?_
  refine tm_aload_n X 0 dL_law_1076 rfl rfl ?_
  refine tm_iload_n X 3 dL_law_1077 rfl rfl ?_
  refine tm_iconst X (2 : Int32) dL_law_1078 (by decide) ?_
  refine tm_iadd X dL_law_1079 ?_
  refine tm_sld hSld hi2 dL_law_1080 (he2) ?_
  refine tm_aload_n X 0 dL_law_1081 rfl rfl ?_
  refine tm_iload_n X 3 dL_law_1082 rfl rfl ?_
  refine tm_iconst X (3 : Int32) dL_law_1083 (by decide) ?_
  refine tm_iadd X dL_law_1084 ?_
  refine tm_sld hSld hi3 dL_law_1085 (he3) ?_
  refine tm_callVF (As := [.int a0, .int a1, .int a2]) (rest := []) (q0 := 0) X (ctX0_belongs l D ad dA tt hx a0 a1 a2 r hx' e1) (lw_V q1037 q1038 q1039 q117 q1040) cyX0_belongs rfl rfl rfl ⟨Nat.le_of_ble_eq_true rfl, Nat.le_of_ble_eq_true rfl⟩ (Nat.le_of_ble_eq_true rfl) dL_law_1086 ⟨by omega, by omega⟩ rfl ?_
  refine tm_aload_n X 2 dL_law_1089 rfl rfl ?_
  refine tm_aload_n X 0 dL_law_1090 rfl rfl ?_
  refine tm_iload_n X 3 dL_law_1091 rfl rfl ?_
  refine tm_iconst X (1 : Int32) dL_law_1092 (by decide) ?_
  refine tm_iadd X dL_law_1093 ?_
  refine tm_sld hSld hi1 dL_law_1094 (he1) ?_
  refine tm_aload_n X 0 dL_law_1095 rfl rfl ?_
  refine tm_iload_n X 3 dL_law_1096 rfl rfl ?_
  refine tm_iconst X (2 : Int32) dL_law_1097 (by decide) ?_
  refine tm_iadd X dL_law_1098 ?_
  refine tm_sld hSld hi2 dL_law_1099 (he2) ?_
  refine tm_aload_n X 0 dL_law_1100 rfl rfl ?_
  refine tm_iload_n X 3 dL_law_1101 rfl rfl ?_
  refine tm_iconst X (3 : Int32) dL_law_1102 (by decide) ?_
  refine tm_iadd X dL_law_1103 ?_
  refine tm_sld hSld hi3 dL_law_1104 (he3) ?_
  refine tm_callVL (As := [.int a0, .int a1, .int a2]) (rest := [.int r]) (q0 := 0) X (ctX5_belongs l D am dA hm a0 a1 a2 r hm' e2) (lw_V q1757 q1758 q1759 q122 q1760) cyX5_belongs rfl rfl rfl ⟨Nat.le_of_ble_eq_true rfl, Nat.le_of_ble_eq_true rfl⟩ (Nat.le_of_ble_eq_true rfl) dL_law_1105 ⟨by omega, by omega⟩ rfl ?_
  refine tm_ic_eqT X 1360 rfl dL_law_1108 rfl ?_
  exact fun _ => hK ad tt hx' hm' _ _ rfl e3 (by omega) (by omega)
set_option maxHeartbeats 4000000 in
theorem lc_along {G : Gty} {l : Launch} {D : va_G} {dA : Nat → ClassId} {L : Nat} {xs : Nat → Int32} {b : Nat} (X : IsG G l code 4 "HighSpotsLaw" D dA 8192 100000 1200000 5502250) (hSld : ∀ (w : va_W) (ce sl pc : Nat) (lv : List (Nat × Value)) (st : List Value) (i : Int32), vp_in i L → decode code pc = .ok (.iaload, 1) → G w ce sl (pc + 1) lv (.int (xs i.toNatClampNeg) :: st) → G w ce sl pc lv (.int i :: .ref b :: st)) (I : TTy → Hp → Hp → Prop) (hS : St_along I) (ad am : Nat → Nat) (tt : TTy) (hx hm : Hp) (hI : I tt hx hm) (ce sl : Nat) (hce : ce + 4000 ≤ 1200000) (hsl : sl + 12000 ≤ 5502250) (x3 : Int32) (hi1 : vp_in (x3 + (1 : Int32)) L) (hi2 : vp_in (x3 + (2 : Int32)) L) (a0 : Int32) (he1 : xs (x3 + (1 : Int32)).toNatClampNeg = a0) (a1 : Int32) (he2 : xs (x3 + (2 : Int32)).toNatClampNeg = a1) (hK : ∀ (ad' : Nat → Nat) (tt' : TTy) (hx' hm' : Hp) (ce' sl' : Nat), ad' 100 = ad 100 → I tt' hx' hm' → ce' ≤ ce + 4000 → sl' ≤ sl + 12000 → G (wX ad' dA tt' hx' ++ wM am dA hm') ce' sl' 1360 [(0, .ref b), (1, .ref (ad 100)), (2, .ref (am 300)), (3, .int x3)] []) : TM G () (some ()) (wX ad dA tt hx ++ wM am dA hm) ce sl 1113 [(0, .ref b), (1, .ref (ad 100)), (2, .ref (am 300)), (3, .int x3)] [] := by
  obtain ⟨r, hm', e1, e2, e3⟩ := hS tt hx hm a0 a1 hI
  refine tm_aload_n X 1 dL_law_1113 rfl rfl ?_
  refine tm_aload_n X 0 dL_law_1114 rfl rfl ?_
  refine tm_iload_n X 3 dL_law_1115 rfl rfl ?_
  refine tm_iconst X (1 : Int32) dL_law_1116 (by decide) ?_
  refine tm_iadd X dL_law_1117 ?_
  refine tm_sld hSld hi1 dL_law_1118 (he1) ?_
  refine tm_aload_n X 0 dL_law_1119 rfl rfl ?_
  refine tm_iload_n X 3 dL_law_1120 rfl rfl ?_
  refine tm_iconst X (2 : Int32) dL_law_1121 (by decide) ?_
  refine tm_iadd X dL_law_1122 ?_
  refine tm_sld hSld hi2 dL_law_1123 (he2) ?_
  refine tm_callVF (As := [.int a0, .int a1]) (rest := []) (q0 := 0) X (ctX0_along l D ad dA tt hx a0 a1 r e1) (lw_V q1045 q1046 q1047 q117 q1048) cyX0_along rfl rfl rfl ⟨Nat.le_of_ble_eq_true rfl, Nat.le_of_ble_eq_true rfl⟩ (Nat.le_of_ble_eq_true rfl) dL_law_1124 ⟨by omega, by omega⟩ rfl ?_
  refine tm_aload_n X 2 dL_law_1127 rfl rfl ?_
  refine tm_aload_n X 0 dL_law_1128 rfl rfl ?_
  refine tm_iload_n X 3 dL_law_1129 rfl rfl ?_
  refine tm_iconst X (1 : Int32) dL_law_1130 (by decide) ?_
  refine tm_iadd X dL_law_1131 ?_
  refine tm_sld hSld hi1 dL_law_1132 (he1) ?_
  refine tm_aload_n X 0 dL_law_1133 rfl rfl ?_
  refine tm_iload_n X 3 dL_law_1134 rfl rfl ?_
  refine tm_iconst X (2 : Int32) dL_law_1135 (by decide) ?_
  refine tm_iadd X dL_law_1136 ?_
  refine tm_sld hSld hi2 dL_law_1137 (he2) ?_
  refine tm_callVL (As := [.int a0, .int a1]) (rest := [.int r]) (q0 := 0) X (ctX5_along l D am dA hm a0 a1 r hm' e2) (lw_V q1765 q1766 q1767 q122 q1768) cyX5_along rfl rfl rfl ⟨Nat.le_of_ble_eq_true rfl, Nat.le_of_ble_eq_true rfl⟩ (Nat.le_of_ble_eq_true rfl) dL_law_1138 ⟨by omega, by omega⟩ rfl ?_
  refine tm_ic_eqT X 1360 rfl dL_law_1141 rfl ?_
  exact fun _ => hK ad tt hx hm' _ _ rfl e3 (by omega) (by omega)
set_option maxHeartbeats 4000000 in
theorem lc_nights {G : Gty} {l : Launch} {D : va_G} {dA : Nat → ClassId} {L : Nat} {xs : Nat → Int32} {b : Nat} (X : IsG G l code 4 "HighSpotsLaw" D dA 8192 100000 1200000 5502250) (hSld : ∀ (w : va_W) (ce sl pc : Nat) (lv : List (Nat × Value)) (st : List Value) (i : Int32), vp_in i L → decode code pc = .ok (.iaload, 1) → G w ce sl (pc + 1) lv (.int (xs i.toNatClampNeg) :: st) → G w ce sl pc lv (.int i :: .ref b :: st)) (I : TTy → Hp → Hp → Prop) (hS : St_nights I) (ad am : Nat → Nat) (tt : TTy) (hx hm : Hp) (hI : I tt hx hm) (ce sl : Nat) (hce : ce + 4000 ≤ 1200000) (hsl : sl + 12000 ≤ 5502250) (x3 : Int32) (hi1 : vp_in (x3 + (1 : Int32)) L) (hi2 : vp_in (x3 + (2 : Int32)) L) (a0 : Int32) (he1 : xs (x3 + (1 : Int32)).toNatClampNeg = a0) (a1 : Int32) (he2 : xs (x3 + (2 : Int32)).toNatClampNeg = a1) (hK : ∀ (ad' : Nat → Nat) (tt' : TTy) (hx' hm' : Hp) (ce' sl' : Nat), ad' 100 = ad 100 → I tt' hx' hm' → ce' ≤ ce + 4000 → sl' ≤ sl + 12000 → G (wX ad' dA tt' hx' ++ wM am dA hm') ce' sl' 1360 [(0, .ref b), (1, .ref (ad 100)), (2, .ref (am 300)), (3, .int x3)] []) : TM G () (some ()) (wX ad dA tt hx ++ wM am dA hm) ce sl 1146 [(0, .ref b), (1, .ref (ad 100)), (2, .ref (am 300)), (3, .int x3)] [] := by
  obtain ⟨r, hx', hm', e1, e2, e3⟩ := hS tt hx hm a0 a1 hI
  refine tm_aload_n X 1 dL_law_1146 rfl rfl ?_
  refine tm_aload_n X 0 dL_law_1147 rfl rfl ?_
  refine tm_iload_n X 3 dL_law_1148 rfl rfl ?_
  refine tm_iconst X (1 : Int32) dL_law_1149 (by decide) ?_
  refine tm_iadd X dL_law_1150 ?_
  refine tm_sld hSld hi1 dL_law_1151 (he1) ?_
  refine tm_aload_n X 0 dL_law_1152 rfl rfl ?_
  refine tm_iload_n X 3 dL_law_1153 rfl rfl ?_
  refine tm_iconst X (2 : Int32) dL_law_1154 (by decide) ?_
  refine tm_iadd X dL_law_1155 ?_
  refine tm_sld hSld hi2 dL_law_1156 (he2) ?_
  refine tm_callVF (As := [.int a0, .int a1]) (rest := []) (q0 := 0) X (ctX0_nights l D ad dA tt hx a0 a1 r hx' e1) (lw_V q1057 q1058 q1059 q117 q1060) cyX0_nights rfl rfl rfl ⟨Nat.le_of_ble_eq_true rfl, Nat.le_of_ble_eq_true rfl⟩ (Nat.le_of_ble_eq_true rfl) dL_law_1157 ⟨by omega, by omega⟩ rfl ?_
  refine tm_aload_n X 2 dL_law_1160 rfl rfl ?_
  refine tm_aload_n X 0 dL_law_1161 rfl rfl ?_
  refine tm_iload_n X 3 dL_law_1162 rfl rfl ?_
  refine tm_iconst X (1 : Int32) dL_law_1163 (by decide) ?_
  refine tm_iadd X dL_law_1164 ?_
  refine tm_sld hSld hi1 dL_law_1165 (he1) ?_
  refine tm_aload_n X 0 dL_law_1166 rfl rfl ?_
  refine tm_iload_n X 3 dL_law_1167 rfl rfl ?_
  refine tm_iconst X (2 : Int32) dL_law_1168 (by decide) ?_
  refine tm_iadd X dL_law_1169 ?_
  refine tm_sld hSld hi2 dL_law_1170 (he2) ?_
  refine tm_callVL (As := [.int a0, .int a1]) (rest := [.int r]) (q0 := 0) X (ctX5_nights l D am dA hm a0 a1 r hm' e2) (lw_V q1773 q1774 q1775 q122 q1776) cyX5_nights rfl rfl rfl ⟨Nat.le_of_ble_eq_true rfl, Nat.le_of_ble_eq_true rfl⟩ (Nat.le_of_ble_eq_true rfl) dL_law_1171 ⟨by omega, by omega⟩ rfl ?_
  refine tm_ic_eqT X 1360 rfl dL_law_1174 rfl ?_
  exact fun _ => hK ad tt hx' hm' _ _ rfl e3 (by omega) (by omega)
set_option maxHeartbeats 4000000 in
theorem lc_tried {G : Gty} {l : Launch} {D : va_G} {dA : Nat → ClassId} {L : Nat} {xs : Nat → Int32} {b : Nat} (X : IsG G l code 4 "HighSpotsLaw" D dA 8192 100000 1200000 5502250) (hSld : ∀ (w : va_W) (ce sl pc : Nat) (lv : List (Nat × Value)) (st : List Value) (i : Int32), vp_in i L → decode code pc = .ok (.iaload, 1) → G w ce sl (pc + 1) lv (.int (xs i.toNatClampNeg) :: st) → G w ce sl pc lv (.int i :: .ref b :: st)) (I : TTy → Hp → Hp → Prop) (hS : St_tried I) (ad am : Nat → Nat) (tt : TTy) (hx hm : Hp) (hI : I tt hx hm) (ce sl : Nat) (hce : ce + 4000 ≤ 1200000) (hsl : sl + 12000 ≤ 5502250) (x3 : Int32) (hi1 : vp_in (x3 + (1 : Int32)) L) (hi2 : vp_in (x3 + (2 : Int32)) L) (hi3 : vp_in (x3 + (3 : Int32)) L) (a0 : Int32) (he1 : xs (x3 + (1 : Int32)).toNatClampNeg = a0) (a1 : Int32) (he2 : xs (x3 + (2 : Int32)).toNatClampNeg = a1) (a2 : Int32) (he3 : xs (x3 + (3 : Int32)).toNatClampNeg = a2) (hK : ∀ (ad' : Nat → Nat) (tt' : TTy) (hx' hm' : Hp) (ce' sl' : Nat), ad' 100 = ad 100 → I tt' hx' hm' → ce' ≤ ce + 4000 → sl' ≤ sl + 12000 → G (wX ad' dA tt' hx' ++ wM am dA hm') ce' sl' 1360 [(0, .ref b), (1, .ref (ad 100)), (2, .ref (am 300)), (3, .int x3)] []) : TM G () (some ()) (wX ad dA tt hx ++ wM am dA hm) ce sl 1179 [(0, .ref b), (1, .ref (ad 100)), (2, .ref (am 300)), (3, .int x3)] [] := by
  obtain ⟨r, hx', hm', e1, e2, e3⟩ := hS tt hx hm a0 a1 a2 hI
  refine tm_aload_n X 1 dL_law_1179 rfl rfl ?_
  refine tm_aload_n X 0 dL_law_1180 rfl rfl ?_
  refine tm_iload_n X 3 dL_law_1181 rfl rfl ?_
  refine tm_iconst X (1 : Int32) dL_law_1182 (by decide) ?_
  refine tm_iadd X dL_law_1183 ?_
  refine tm_sld hSld hi1 dL_law_1184 (he1) ?_
  refine tm_aload_n X 0 dL_law_1185 rfl rfl ?_
  refine tm_iload_n X 3 dL_law_1186 rfl rfl ?_
  refine tm_iconst X (2 : Int32) dL_law_1187 (by decide) ?_
  refine tm_iadd X dL_law_1188 ?_
  refine tm_sld hSld hi2 dL_law_1189 (he2) ?_
  refine tm_aload_n X 0 dL_law_1190 rfl rfl ?_
  refine tm_iload_n X 3 dL_law_1191 rfl rfl ?_
  refine tm_iconst X (3 : Int32) dL_law_1192 (by decide) ?_
  refine tm_iadd X dL_law_1193 ?_
  refine tm_sld hSld hi3 dL_law_1194 (he3) ?_
  refine tm_callVF (As := [.int a0, .int a1, .int a2]) (rest := []) (q0 := 0) X (ctX0_tried l D ad dA tt hx a0 a1 a2 r hx' e1) (lw_V q1143 q1144 q1145 q117 q1146) cyX0_tried rfl rfl rfl ⟨Nat.le_of_ble_eq_true rfl, Nat.le_of_ble_eq_true rfl⟩ (Nat.le_of_ble_eq_true rfl) dL_law_1195 ⟨by omega, by omega⟩ rfl ?_
  refine tm_aload_n X 2 dL_law_1198 rfl rfl ?_
  refine tm_aload_n X 0 dL_law_1199 rfl rfl ?_
  refine tm_iload_n X 3 dL_law_1200 rfl rfl ?_
  refine tm_iconst X (1 : Int32) dL_law_1201 (by decide) ?_
  refine tm_iadd X dL_law_1202 ?_
  refine tm_sld hSld hi1 dL_law_1203 (he1) ?_
  refine tm_aload_n X 0 dL_law_1204 rfl rfl ?_
  refine tm_iload_n X 3 dL_law_1205 rfl rfl ?_
  refine tm_iconst X (2 : Int32) dL_law_1206 (by decide) ?_
  refine tm_iadd X dL_law_1207 ?_
  refine tm_sld hSld hi2 dL_law_1208 (he2) ?_
  refine tm_aload_n X 0 dL_law_1209 rfl rfl ?_
  refine tm_iload_n X 3 dL_law_1210 rfl rfl ?_
  refine tm_iconst X (3 : Int32) dL_law_1211 (by decide) ?_
  refine tm_iadd X dL_law_1212 ?_
  refine tm_sld hSld hi3 dL_law_1213 (he3) ?_
  refine tm_callVL (As := [.int a0, .int a1, .int a2]) (rest := [.int r]) (q0 := 0) X (ctX5_tried l D am dA hm a0 a1 a2 r hm' e2) (lw_V q1812 q1813 q1814 q122 q1815) cyX5_tried rfl rfl rfl ⟨Nat.le_of_ble_eq_true rfl, Nat.le_of_ble_eq_true rfl⟩ (Nat.le_of_ble_eq_true rfl) dL_law_1214 ⟨by omega, by omega⟩ rfl ?_
  refine tm_ic_eqT X 1360 rfl dL_law_1217 rfl ?_
  exact fun _ => hK ad tt hx' hm' _ _ rfl e3 (by omega) (by omega)
set_option maxHeartbeats 4000000 in
theorem lc_even {G : Gty} {l : Launch} {D : va_G} {dA : Nat → ClassId} {L : Nat} {xs : Nat → Int32} {b : Nat} (X : IsG G l code 4 "HighSpotsLaw" D dA 8192 100000 1200000 5502250) (hSld : ∀ (w : va_W) (ce sl pc : Nat) (lv : List (Nat × Value)) (st : List Value) (i : Int32), vp_in i L → decode code pc = .ok (.iaload, 1) → G w ce sl (pc + 1) lv (.int (xs i.toNatClampNeg) :: st) → G w ce sl pc lv (.int i :: .ref b :: st)) (I : TTy → Hp → Hp → Prop) (hS : St_even I) (ad am : Nat → Nat) (tt : TTy) (hx hm : Hp) (hI : I tt hx hm) (ce sl : Nat) (hce : ce + 4000 ≤ 1200000) (hsl : sl + 12000 ≤ 5502250) (x3 : Int32) (hi1 : vp_in (x3 + (1 : Int32)) L) (hi2 : vp_in (x3 + (2 : Int32)) L) (hi3 : vp_in (x3 + (3 : Int32)) L) (a0 : Int32) (he1 : xs (x3 + (1 : Int32)).toNatClampNeg = a0) (a1 : Int32) (he2 : xs (x3 + (2 : Int32)).toNatClampNeg = a1) (a2 : Int32) (he3 : xs (x3 + (3 : Int32)).toNatClampNeg = a2) (hK : ∀ (ad' : Nat → Nat) (tt' : TTy) (hx' hm' : Hp) (ce' sl' : Nat), ad' 100 = ad 100 → I tt' hx' hm' → ce' ≤ ce + 4000 → sl' ≤ sl + 12000 → G (wX ad' dA tt' hx' ++ wM am dA hm') ce' sl' 1360 [(0, .ref b), (1, .ref (ad 100)), (2, .ref (am 300)), (3, .int x3)] []) : TM G () (some ()) (wX ad dA tt hx ++ wM am dA hm) ce sl 1222 [(0, .ref b), (1, .ref (ad 100)), (2, .ref (am 300)), (3, .int x3)] [] := by
  obtain ⟨r, hx', hm', e1, e2, e3⟩ := hS tt hx hm a0 a1 a2 hI
  refine tm_aload_n X 1 dL_law_1222 rfl rfl ?_
  refine tm_aload_n X 0 dL_law_1223 rfl rfl ?_
  refine tm_iload_n X 3 dL_law_1224 rfl rfl ?_
  refine tm_iconst X (1 : Int32) dL_law_1225 (by decide) ?_
  refine tm_iadd X dL_law_1226 ?_
  refine tm_sld hSld hi1 dL_law_1227 (he1) ?_
  refine tm_aload_n X 0 dL_law_1228 rfl rfl ?_
  refine tm_iload_n X 3 dL_law_1229 rfl rfl ?_
  refine tm_iconst X (2 : Int32) dL_law_1230 (by decide) ?_
  refine tm_iadd X dL_law_1231 ?_
  refine tm_sld hSld hi2 dL_law_1232 (he2) ?_
  refine tm_aload_n X 0 dL_law_1233 rfl rfl ?_
  refine tm_iload_n X 3 dL_law_1234 rfl rfl ?_
  refine tm_iconst X (3 : Int32) dL_law_1235 (by decide) ?_
  refine tm_iadd X dL_law_1236 ?_
  refine tm_sld hSld hi3 dL_law_1237 (he3) ?_
  refine tm_callVF (As := [.int a0, .int a1, .int a2]) (rest := []) (q0 := 0) X (ctX0_even l D ad dA tt hx a0 a1 a2 r hx' e1) (lw_V q1151 q1152 q1153 q117 q1154) cyX0_even rfl rfl rfl ⟨Nat.le_of_ble_eq_true rfl, Nat.le_of_ble_eq_true rfl⟩ (Nat.le_of_ble_eq_true rfl) dL_law_1238 ⟨by omega, by omega⟩ rfl ?_
  refine tm_aload_n X 2 dL_law_1241 rfl rfl ?_
  refine tm_aload_n X 0 dL_law_1242 rfl rfl ?_
  refine tm_iload_n X 3 dL_law_1243 rfl rfl ?_
  refine tm_iconst X (1 : Int32) dL_law_1244 (by decide) ?_
  refine tm_iadd X dL_law_1245 ?_
  refine tm_sld hSld hi1 dL_law_1246 (he1) ?_
  refine tm_aload_n X 0 dL_law_1247 rfl rfl ?_
  refine tm_iload_n X 3 dL_law_1248 rfl rfl ?_
  refine tm_iconst X (2 : Int32) dL_law_1249 (by decide) ?_
  refine tm_iadd X dL_law_1250 ?_
  refine tm_sld hSld hi2 dL_law_1251 (he2) ?_
  refine tm_aload_n X 0 dL_law_1252 rfl rfl ?_
  refine tm_iload_n X 3 dL_law_1253 rfl rfl ?_
  refine tm_iconst X (3 : Int32) dL_law_1254 (by decide) ?_
  refine tm_iadd X dL_law_1255 ?_
  refine tm_sld hSld hi3 dL_law_1256 (he3) ?_
  refine tm_callVL (As := [.int a0, .int a1, .int a2]) (rest := [.int r]) (q0 := 0) X (ctX5_even l D am dA hm a0 a1 a2 r hm' e2) (lw_V q1828 q1829 q1830 q122 q1831) cyX5_even rfl rfl rfl ⟨Nat.le_of_ble_eq_true rfl, Nat.le_of_ble_eq_true rfl⟩ (Nat.le_of_ble_eq_true rfl) dL_law_1257 ⟨by omega, by omega⟩ rfl ?_
  refine tm_ic_eqT X 1360 rfl dL_law_1260 rfl ?_
  exact fun _ => hK ad tt hx' hm' _ _ rfl e3 (by omega) (by omega)
set_option maxHeartbeats 4000000 in
theorem lc_seed {G : Gty} {l : Launch} {D : va_G} {dA : Nat → ClassId} {L : Nat} {xs : Nat → Int32} {b : Nat} (X : IsG G l code 4 "HighSpotsLaw" D dA 8192 100000 1200000 5502250) (hSld : ∀ (w : va_W) (ce sl pc : Nat) (lv : List (Nat × Value)) (st : List Value) (i : Int32), vp_in i L → decode code pc = .ok (.iaload, 1) → G w ce sl (pc + 1) lv (.int (xs i.toNatClampNeg) :: st) → G w ce sl pc lv (.int i :: .ref b :: st)) (I : TTy → Hp → Hp → Prop) (hS : St_seed I) (ad am : Nat → Nat) (tt : TTy) (hx hm : Hp) (hI : I tt hx hm) (ce sl : Nat) (hce : ce + 4000 ≤ 1200000) (hsl : sl + 12000 ≤ 5502250) (x3 : Int32) (hi1 : vp_in (x3 + (1 : Int32)) L) (a0 : Int32) (he1 : xs (x3 + (1 : Int32)).toNatClampNeg = a0) (hK : ∀ (ad' : Nat → Nat) (tt' : TTy) (hx' hm' : Hp) (ce' sl' : Nat), ad' 100 = ad 100 → I tt' hx' hm' → ce' ≤ ce + 4000 → sl' ≤ sl + 12000 → G (wX ad' dA tt' hx' ++ wM am dA hm') ce' sl' 1360 [(0, .ref b), (1, .ref (ad 100)), (2, .ref (am 300)), (3, .int x3)] []) : TM G () (some ()) (wX ad dA tt hx ++ wM am dA hm) ce sl 1265 [(0, .ref b), (1, .ref (ad 100)), (2, .ref (am 300)), (3, .int x3)] [] := by
  obtain ⟨r, hx', hm', e1, e2, e3⟩ := hS tt hx hm a0 hI
  refine tm_aload_n X 1 dL_law_1265 rfl rfl ?_
  refine tm_aload_n X 0 dL_law_1266 rfl rfl ?_
  refine tm_iload_n X 3 dL_law_1267 rfl rfl ?_
  refine tm_iconst X (1 : Int32) dL_law_1268 (by decide) ?_
  refine tm_iadd X dL_law_1269 ?_
  refine tm_sld hSld hi1 dL_law_1270 (he1) ?_
  refine tm_callVF (As := [.int a0]) (rest := []) (q0 := 0) X (ctX0_seed l D ad dA tt hx a0 r hx' e1) (lw_V q1156 q1157 q1158 q117 q1159) cyX0_seed rfl rfl rfl ⟨Nat.le_of_ble_eq_true rfl, Nat.le_of_ble_eq_true rfl⟩ (Nat.le_of_ble_eq_true rfl) dL_law_1271 ⟨by omega, by omega⟩ rfl ?_
  refine tm_aload_n X 2 dL_law_1274 rfl rfl ?_
  refine tm_aload_n X 0 dL_law_1275 rfl rfl ?_
  refine tm_iload_n X 3 dL_law_1276 rfl rfl ?_
  refine tm_iconst X (1 : Int32) dL_law_1277 (by decide) ?_
  refine tm_iadd X dL_law_1278 ?_
  refine tm_sld hSld hi1 dL_law_1279 (he1) ?_
  refine tm_callVL (As := [.int a0]) (rest := [.int r]) (q0 := 0) X (ctX5_seed l D am dA hm a0 r hm' e2) (lw_V q1832 q1833 q1834 q122 q1835) cyX5_seed rfl rfl rfl ⟨Nat.le_of_ble_eq_true rfl, Nat.le_of_ble_eq_true rfl⟩ (Nat.le_of_ble_eq_true rfl) dL_law_1280 ⟨by omega, by omega⟩ rfl ?_
  refine tm_ic_eqT X 1360 rfl dL_law_1283 rfl ?_
  exact fun _ => hK ad tt hx' hm' _ _ rfl e3 (by omega) (by omega)
set_option maxHeartbeats 4000000 in
theorem lc_keep {G : Gty} {l : Launch} {D : va_G} {dA : Nat → ClassId} {L : Nat} {xs : Nat → Int32} {b : Nat} (X : IsG G l code 4 "HighSpotsLaw" D dA 8192 100000 1200000 5502250) (hSld : ∀ (w : va_W) (ce sl pc : Nat) (lv : List (Nat × Value)) (st : List Value) (i : Int32), vp_in i L → decode code pc = .ok (.iaload, 1) → G w ce sl (pc + 1) lv (.int (xs i.toNatClampNeg) :: st) → G w ce sl pc lv (.int i :: .ref b :: st)) (I : TTy → Hp → Hp → Prop) (hS : St_keep I) (ad am : Nat → Nat) (tt : TTy) (hx hm : Hp) (hI : I tt hx hm) (ce sl : Nat) (hce : ce + 4000 ≤ 1200000) (hsl : sl + 12000 ≤ 5502250) (x3 : Int32) (hK : ∀ (ad' : Nat → Nat) (tt' : TTy) (hx' hm' : Hp) (ce' sl' : Nat), ad' 100 = ad 100 → I tt' hx' hm' → ce' ≤ ce + 4000 → sl' ≤ sl + 12000 → G (wX ad' dA tt' hx' ++ wM am dA hm') ce' sl' 1360 [(0, .ref b), (1, .ref (ad 100)), (2, .ref (am 300)), (3, .int x3)] []) : TM G () (some ()) (wX ad dA tt hx ++ wM am dA hm) ce sl 1288 [(0, .ref b), (1, .ref (ad 100)), (2, .ref (am 300)), (3, .int x3)] [] := by
  obtain ⟨r, hx', hm', e1, e2, e3⟩ := hS tt hx hm hI
  refine tm_aload_n X 1 dL_law_1288 rfl rfl ?_
  refine tm_callVF (As := []) (rest := []) (q0 := 0) X (ctX0_keep l D ad dA tt hx r hx' e1) (lw_V q1161 q1162 q1163 q117 q1164) cyX0_keep rfl rfl rfl ⟨Nat.le_of_ble_eq_true rfl, Nat.le_of_ble_eq_true rfl⟩ (Nat.le_of_ble_eq_true rfl) dL_law_1289 ⟨by omega, by omega⟩ rfl ?_
  refine tm_aload_n X 2 dL_law_1292 rfl rfl ?_
  refine tm_callVL (As := []) (rest := [.int r]) (q0 := 0) X (ctX5_keep l D am dA hm r hm' e2) (lw_V q1837 q1838 q1839 q122 q1840) cyX5_keep rfl rfl rfl ⟨Nat.le_of_ble_eq_true rfl, Nat.le_of_ble_eq_true rfl⟩ (Nat.le_of_ble_eq_true rfl) dL_law_1293 ⟨by omega, by omega⟩ rfl ?_
  refine tm_ic_eqT X 1360 rfl dL_law_1296 rfl ?_
  exact fun _ => hK ad tt hx' hm' _ _ rfl e3 (by omega) (by omega)
set_option maxHeartbeats 4000000 in
theorem lc_undo {G : Gty} {l : Launch} {D : va_G} {dA : Nat → ClassId} {L : Nat} {xs : Nat → Int32} {b : Nat} (X : IsG G l code 4 "HighSpotsLaw" D dA 8192 100000 1200000 5502250) (hSld : ∀ (w : va_W) (ce sl pc : Nat) (lv : List (Nat × Value)) (st : List Value) (i : Int32), vp_in i L → decode code pc = .ok (.iaload, 1) → G w ce sl (pc + 1) lv (.int (xs i.toNatClampNeg) :: st) → G w ce sl pc lv (.int i :: .ref b :: st)) (I : TTy → Hp → Hp → Prop) (hS : St_undo I) (ad am : Nat → Nat) (tt : TTy) (hx hm : Hp) (hI : I tt hx hm) (ce sl : Nat) (hce : ce + 4000 ≤ 1200000) (hsl : sl + 12000 ≤ 5502250) (x3 : Int32) (hK : ∀ (ad' : Nat → Nat) (tt' : TTy) (hx' hm' : Hp) (ce' sl' : Nat), ad' 100 = ad 100 → I tt' hx' hm' → ce' ≤ ce + 4000 → sl' ≤ sl + 12000 → G (wX ad' dA tt' hx' ++ wM am dA hm') ce' sl' 1360 [(0, .ref b), (1, .ref (ad 100)), (2, .ref (am 300)), (3, .int x3)] []) : TM G () (some ()) (wX ad dA tt hx ++ wM am dA hm) ce sl 1301 [(0, .ref b), (1, .ref (ad 100)), (2, .ref (am 300)), (3, .int x3)] [] := by
  obtain ⟨r, hx', hm', e1, e2, e3⟩ := hS tt hx hm hI
  refine tm_aload_n X 1 dL_law_1301 rfl rfl ?_
  refine tm_callVF (As := []) (rest := []) (q0 := 0) X (ctX0_undo l D ad dA tt hx r hx' e1) (lw_V q1165 q1166 q1167 q117 q1168) cyX0_undo rfl rfl rfl ⟨Nat.le_of_ble_eq_true rfl, Nat.le_of_ble_eq_true rfl⟩ (Nat.le_of_ble_eq_true rfl) dL_law_1302 ⟨by omega, by omega⟩ rfl ?_
  refine tm_aload_n X 2 dL_law_1305 rfl rfl ?_
  refine tm_callVL (As := []) (rest := [.int r]) (q0 := 0) X (ctX5_undo l D am dA hm r hm' e2) (lw_V q1841 q1842 q1843 q122 q1844) cyX5_undo rfl rfl rfl ⟨Nat.le_of_ble_eq_true rfl, Nat.le_of_ble_eq_true rfl⟩ (Nat.le_of_ble_eq_true rfl) dL_law_1306 ⟨by omega, by omega⟩ rfl ?_
  refine tm_ic_eqT X 1360 rfl dL_law_1309 rfl ?_
  exact fun _ => hK ad tt hx' hm' _ _ rfl e3 (by omega) (by omega)
set_option maxHeartbeats 4000000 in
theorem lc_check {G : Gty} {l : Launch} {D : va_G} {dA : Nat → ClassId} {L : Nat} {xs : Nat → Int32} {b : Nat} (X : IsG G l code 4 "HighSpotsLaw" D dA 8192 100000 1200000 5502250) (hSld : ∀ (w : va_W) (ce sl pc : Nat) (lv : List (Nat × Value)) (st : List Value) (i : Int32), vp_in i L → decode code pc = .ok (.iaload, 1) → G w ce sl (pc + 1) lv (.int (xs i.toNatClampNeg) :: st) → G w ce sl pc lv (.int i :: .ref b :: st)) (I : TTy → Hp → Hp → Prop) (hS : St_check I) (ad am : Nat → Nat) (tt : TTy) (hx hm : Hp) (hI : I tt hx hm) (ce sl : Nat) (hce : ce + 4000 ≤ 1200000) (hsl : sl + 12000 ≤ 5502250) (x3 : Int32) (hi1 : vp_in (x3 + (1 : Int32)) L) (a0 : Int32) (he1 : xs (x3 + (1 : Int32)).toNatClampNeg = a0) (hK : ∀ (ad' : Nat → Nat) (tt' : TTy) (hx' hm' : Hp) (ce' sl' : Nat), ad' 100 = ad 100 → I tt' hx' hm' → ce' ≤ ce + 4000 → sl' ≤ sl + 12000 → G (wX ad' dA tt' hx' ++ wM am dA hm') ce' sl' 1360 [(0, .ref b), (1, .ref (ad 100)), (2, .ref (am 300)), (3, .int x3)] []) : TM G () (some ()) (wX ad dA tt hx ++ wM am dA hm) ce sl 1314 [(0, .ref b), (1, .ref (ad 100)), (2, .ref (am 300)), (3, .int x3)] [] := by
  obtain ⟨r, hx', hm', e1, e2, e3⟩ := hS tt hx hm a0 hI
  refine tm_aload_n X 1 dL_law_1314 rfl rfl ?_
  refine tm_aload_n X 0 dL_law_1315 rfl rfl ?_
  refine tm_iload_n X 3 dL_law_1316 rfl rfl ?_
  refine tm_iconst X (1 : Int32) dL_law_1317 (by decide) ?_
  refine tm_iadd X dL_law_1318 ?_
  refine tm_sld hSld hi1 dL_law_1319 (he1) ?_
  refine tm_callVF (As := [.int a0]) (rest := []) (q0 := 0) X (ctX0_check l D ad dA tt hx a0 r hx' e1) (lw_V q1169 q1170 q1171 q117 q1172) cyX0_check rfl rfl rfl ⟨Nat.le_of_ble_eq_true rfl, Nat.le_of_ble_eq_true rfl⟩ (Nat.le_of_ble_eq_true rfl) dL_law_1320 ⟨by omega, by omega⟩ rfl ?_
  refine tm_aload_n X 2 dL_law_1323 rfl rfl ?_
  refine tm_aload_n X 0 dL_law_1324 rfl rfl ?_
  refine tm_iload_n X 3 dL_law_1325 rfl rfl ?_
  refine tm_iconst X (1 : Int32) dL_law_1326 (by decide) ?_
  refine tm_iadd X dL_law_1327 ?_
  refine tm_sld hSld hi1 dL_law_1328 (he1) ?_
  refine tm_callVL (As := [.int a0]) (rest := [.int r]) (q0 := 0) X (ctX5_check l D am dA hm a0 r hm' e2) (lw_V q1845 q1846 q1847 q122 q1848) cyX5_check rfl rfl rfl ⟨Nat.le_of_ble_eq_true rfl, Nat.le_of_ble_eq_true rfl⟩ (Nat.le_of_ble_eq_true rfl) dL_law_1329 ⟨by omega, by omega⟩ rfl ?_
  refine tm_ic_eqT X 1360 rfl dL_law_1332 rfl ?_
  exact fun _ => hK ad tt hx' hm' _ _ rfl e3 (by omega) (by omega)
set_option maxHeartbeats 4000000 in
theorem lc_count {G : Gty} {l : Launch} {D : va_G} {dA : Nat → ClassId} {L : Nat} {xs : Nat → Int32} {b : Nat} (X : IsG G l code 4 "HighSpotsLaw" D dA 8192 100000 1200000 5502250) (hSld : ∀ (w : va_W) (ce sl pc : Nat) (lv : List (Nat × Value)) (st : List Value) (i : Int32), vp_in i L → decode code pc = .ok (.iaload, 1) → G w ce sl (pc + 1) lv (.int (xs i.toNatClampNeg) :: st) → G w ce sl pc lv (.int i :: .ref b :: st)) (I : TTy → Hp → Hp → Prop) (hS : St_count I) (ad am : Nat → Nat) (tt : TTy) (hx hm : Hp) (hI : I tt hx hm) (ce sl : Nat) (hce : ce + 4000 ≤ 1200000) (hsl : sl + 12000 ≤ 5502250) (x3 : Int32) (hi1 : vp_in (x3 + (1 : Int32)) L) (a0 : Int32) (he1 : xs (x3 + (1 : Int32)).toNatClampNeg = a0) (hK : ∀ (ad' : Nat → Nat) (tt' : TTy) (hx' hm' : Hp) (ce' sl' : Nat), ad' 100 = ad 100 → I tt' hx' hm' → ce' ≤ ce + 4000 → sl' ≤ sl + 12000 → G (wX ad' dA tt' hx' ++ wM am dA hm') ce' sl' 1360 [(0, .ref b), (1, .ref (ad 100)), (2, .ref (am 300)), (3, .int x3)] []) : TM G () (some ()) (wX ad dA tt hx ++ wM am dA hm) ce sl 1337 [(0, .ref b), (1, .ref (ad 100)), (2, .ref (am 300)), (3, .int x3)] [] := by
  obtain ⟨r, e1, e2, e3⟩ := hS tt hx hm a0 hI
  refine tm_aload_n X 1 dL_law_1337 rfl rfl ?_
  refine tm_aload_n X 0 dL_law_1338 rfl rfl ?_
  refine tm_iload_n X 3 dL_law_1339 rfl rfl ?_
  refine tm_iconst X (1 : Int32) dL_law_1340 (by decide) ?_
  refine tm_iadd X dL_law_1341 ?_
  refine tm_sld hSld hi1 dL_law_1342 (he1) ?_
  refine tm_callVF (As := [.int a0]) (rest := []) (q0 := 0) X (ctX0_count l D ad dA tt hx a0 r e1) (lw_V q1173 q1174 q1175 q117 q1176) cyX0_count rfl rfl rfl ⟨Nat.le_of_ble_eq_true rfl, Nat.le_of_ble_eq_true rfl⟩ (Nat.le_of_ble_eq_true rfl) dL_law_1343 ⟨by omega, by omega⟩ rfl ?_
  refine tm_aload_n X 2 dL_law_1346 rfl rfl ?_
  refine tm_aload_n X 0 dL_law_1347 rfl rfl ?_
  refine tm_iload_n X 3 dL_law_1348 rfl rfl ?_
  refine tm_iconst X (1 : Int32) dL_law_1349 (by decide) ?_
  refine tm_iadd X dL_law_1350 ?_
  refine tm_sld hSld hi1 dL_law_1351 (he1) ?_
  refine tm_callVL (As := [.int a0]) (rest := [.int r]) (q0 := 0) X (ctX5_count l D am dA hm a0 r e2) (lw_V q1849 q1850 q1851 q122 q1852) cyX5_count rfl rfl rfl ⟨Nat.le_of_ble_eq_true rfl, Nat.le_of_ble_eq_true rfl⟩ (Nat.le_of_ble_eq_true rfl) dL_law_1352 ⟨by omega, by omega⟩ rfl ?_
  refine tm_ic_eqT X 1360 rfl dL_law_1355 rfl ?_
  exact fun _ => hK ad tt hx hm _ _ rfl e3 (by omega) (by omega)
