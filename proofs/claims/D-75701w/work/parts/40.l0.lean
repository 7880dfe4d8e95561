set_option maxRecDepth 100000
abbrev TTy : Type := (Nat → Option Nat) × (Nat → Option Nat) × va_W
section LAWROWS
variable {G : Gty} {l : Launch} {cc : ByteArray} {nL : Nat} {own : String} {D : va_G} {dA : Nat → ClassId} {fr lo mc ms : Nat} {ρ : Type} {res : ρ} {M : Option ρ} {w wr wc wc' : va_W} {ce sl pc : Nat} {lv : List (Nat × Value)} {st rest : List Value}
variable {y : MethodName} {bytes : ByteArray} {maxL : Nat} {ret : Option FieldType} {fr1 lo1 mc1 ms1 : Nat} {As : List Value} {rv : Option Value} {b : Nat} {index : Nat} {Post : Option Value → va_W → Prop}
theorem tm_ic_eqT (X : IsG G l cc nL own D dA fr lo mc ms) {x y : Int32} {off : Int} (tgt : Nat) (hxy : x = y) (hd : decode cc pc = .ok (.if_icmp .eq off, 3)) (ht : (pc : Int) + off = (tgt : Int)) (k : TM G res M w ce sl tgt lv st) : TM G res M w ce sl pc lv (.int y :: .int x :: st) := by
  obtain ⟨p, e, R, s, m, args, below, meth, c, Q, A, ⟨hx, hb, hml, hown, hts⟩, hK, hN, hA, hR, hG⟩ := X
  intro hm
  rw [hG]
  intro H locs ls hP hD hS hl
  exact lv_icmp_eq hx hb hd ht (fun _ => ((hG ..).mp (k hm) H locs ls hP hD hS hl)) (fun h9 => absurd hxy h9)
theorem tm_ic_gtT (X : IsG G l cc nL own D dA fr lo mc ms) {x y : Int32} {off : Int} (tgt : Nat) (hxy : y < x) (hd : decode cc pc = .ok (.if_icmp .gt off, 3)) (ht : (pc : Int) + off = (tgt : Int)) (k : TM G res M w ce sl tgt lv st) : TM G res M w ce sl pc lv (.int y :: .int x :: st) := by
  obtain ⟨p, e, R, s, m, args, below, meth, c, Q, A, ⟨hx, hb, hml, hown, hts⟩, hK, hN, hA, hR, hG⟩ := X
  intro hm
  rw [hG]
  intro H locs ls hP hD hS hl
  exact lv_icmp_gt hx hb hd ht (fun _ => ((hG ..).mp (k hm) H locs ls hP hD hS hl)) (fun h9 => absurd hxy h9)
theorem tm_ic_gtF (X : IsG G l cc nL own D dA fr lo mc ms) {x y : Int32} {off : Int} (tgt : Nat) (hxy : ¬ y < x) (hd : decode cc pc = .ok (.if_icmp .gt off, 3)) (ht : (pc : Int) + off = (tgt : Int)) (k : TM G res M w ce sl (pc + 3) lv st) : TM G res M w ce sl pc lv (.int y :: .int x :: st) := by
  obtain ⟨p, e, R, s, m, args, below, meth, c, Q, A, ⟨hx, hb, hml, hown, hts⟩, hK, hN, hA, hR, hG⟩ := X
  intro hm
  rw [hG]
  intro H locs ls hP hD hS hl
  exact lv_icmp_gt hx hb hd ht (fun h9 => absurd h9 hxy) (fun _ => ((hG ..).mp (k hm) H locs ls hP hD hS hl))
theorem tm_if_eqT (X : IsG G l cc nL own D dA fr lo mc ms) {x : Int32} {off : Int} (tgt : Nat) (hxy : x = 0) (hd : decode cc pc = .ok (.ifCond .eq off, 3)) (ht : (pc : Int) + off = (tgt : Int)) (k : TM G res M w ce sl tgt lv st) : TM G res M w ce sl pc lv (.int x :: st) := by
  obtain ⟨p, e, R, s, m, args, below, meth, c, Q, A, ⟨hx, hb, hml, hown, hts⟩, hK, hN, hA, hR, hG⟩ := X
  intro hm
  rw [hG]
  intro H locs ls hP hD hS hl
  exact lv_if_eq hx hb hd ht (fun _ => ((hG ..).mp (k hm) H locs ls hP hD hS hl)) (fun h9 => absurd hxy h9)
theorem tm_if_eqF (X : IsG G l cc nL own D dA fr lo mc ms) {x : Int32} {off : Int} (tgt : Nat) (hxy : ¬ x = 0) (hd : decode cc pc = .ok (.ifCond .eq off, 3)) (ht : (pc : Int) + off = (tgt : Int)) (k : TM G res M w ce sl (pc + 3) lv st) : TM G res M w ce sl pc lv (.int x :: st) := by
  obtain ⟨p, e, R, s, m, args, below, meth, c, Q, A, ⟨hx, hb, hml, hown, hts⟩, hK, hN, hA, hR, hG⟩ := X
  intro hm
  rw [hG]
  intro H locs ls hP hD hS hl
  exact lv_if_eq hx hb hd ht (fun h9 => absurd h9 hxy) (fun _ => ((hG ..).mp (k hm) H locs ls hP hD hS hl))
theorem tm_callVF {r : Int32} {n q0 ci N : Nat} {T0 : u_T} {fs : List Value} (X : IsG G l cc nL own D dA fr lo mc ms) (hC : CT l y bytes maxL ret D dA fr1 lo1 mc1 ms1 wc (.ref b :: As) (some (.int r)) wc') (hT : GoodIn lw_all (wsV own index y.cls y (ws_ y bytes maxL ret))) (hcy : Callee y n) (hn : As.length = n) (hq : wc[q0]? = some (b, .inr (ci, fs))) (hcl : vwCl[ci]? = some (y.cls, T0, N)) (hroom : fr1 + 1 ≤ fr ∧ 8 + (maxL + 11) + lo1 ≤ lo) (hcat : (rest.map fun v => v.category).sum ≤ 8) (hd : decode cc pc = .ok (.invokevirtual index, 3)) (hf : ce + mc1 ≤ mc ∧ sl + ms1 ≤ ms) {st0 : List Value} (hst : st0 = As.reverse ++ .ref b :: rest) (k : TM G res M (wc' ++ wr) (ce + mc1) (sl + ms1) (pc + 3) lv (.int r :: rest)) : TM G res M (wc ++ wr) ce sl pc lv st0 := by
  obtain ⟨p, e, R, s, m, args, below, meth, c, Q, A, ⟨hx, hb, hml, hown, hts⟩, hK, hN, hA, ⟨h1, h2, h3, h4⟩, hG⟩ := X
  intro hm
  rw [hG]
  intro H locs ls hP hD hS hl
  have hF := va_A.of (wc := wc) hD hS.1 hA (fun x h => List.mem_append_left _ h)
  refine callBehind (va_runV (As := As) (rest := rest) ⟨hx, hb, hml, hown, hts⟩ (hC H.size) (cwV n hts hT rfl rfl rfl ⟨rfl, hcy⟩ ⟨by rw [h1]; exact hroom.1, by rw [h2]; exact hroom.2⟩) ⟨PCx.blind, va_recv hK hP.left hcl hq, PCx.at hK hN hS hF hP.left hD.left⟩ rfl hn hl.1 hst (lv_room hcat) hd ⟨by rw [h3]; exact hf.1, by rw [h4]; exact hf.2⟩) hS hF (fun H1 locs1 hP1 hD1 hz hk hS1 => ?_)
  obtain ⟨hP2, hD2⟩ := frameFirst hP hD hk hF hP1 hD1
  exact (hG ..).mp (k hm) H1 locs1 ls hP2 hD2 hS1 hl
theorem tm_callVFE {n q0 ci N : Nat} {T0 : u_T} {fs : List Value} (X : IsG G l cc nL own D dA fr lo mc ms) (hC : CTE l y bytes maxL ret D dA fr1 lo1 mc1 ms1 wc (.ref b :: As) Post) (hT : GoodIn lw_all (wsV own index y.cls y (ws_ y bytes maxL ret))) (hcy : Callee y n) (hn : As.length = n) (hq : wc[q0]? = some (b, .inr (ci, fs))) (hcl : vwCl[ci]? = some (y.cls, T0, N)) (hroom : fr1 + 1 ≤ fr ∧ 8 + (maxL + 11) + lo1 ≤ lo) (hcat : (rest.map fun v => v.category).sum ≤ 8) (hd : decode cc pc = .ok (.invokevirtual index, 3)) (hf : ce + mc1 ≤ mc ∧ sl + ms1 ≤ ms) {st0 : List Value} (hst : st0 = As.reverse ++ .ref b :: rest) (k : ∀ (rv : Option Value) (wc' : va_W), Post rv wc' → TM G res M (wc' ++ wr) (ce + mc1) (sl + ms1) (pc + 3) lv (rv.toList ++ rest)) : TM G res M (wc ++ wr) ce sl pc lv st0 := by
  obtain ⟨p, e, R, s, m, args, below, meth, c, Q, A, ⟨hx, hb, hml, hown, hts⟩, hK, hN, hA, ⟨h1, h2, h3, h4⟩, hG⟩ := X
  intro hm
  rw [hG]
  intro H locs ls hP hD hS hl
  have hF := va_A.of (wc := wc) hD hS.1 hA (fun x h => List.mem_append_left _ h)
  refine callBehindE (va_runV (As := As) (rest := rest) ⟨hx, hb, hml, hown, hts⟩ (hC H.size) (cwV n hts hT rfl rfl rfl ⟨rfl, hcy⟩ ⟨by rw [h1]; exact hroom.1, by rw [h2]; exact hroom.2⟩) ⟨PCx.blind, va_recv hK hP.left hcl hq, PCx.at hK hN hS hF hP.left hD.left⟩ rfl hn hl.1 hst (lv_room hcat) hd ⟨by rw [h3]; exact hf.1, by rw [h4]; exact hf.2⟩) hS hF (fun rv wc' H1 locs1 hpo hP1 hD1 hz hk hS1 => ?_)
  obtain ⟨hP2, hD2⟩ := frameFirst hP hD hk hF hP1 hD1
  exact (hG ..).mp (k rv wc' hpo hm) H1 locs1 ls hP2 hD2 hS1 hl
theorem tm_callVL {r : Int32} {n q0 ci N : Nat} {T0 : u_T} {fs : List Value} (X : IsG G l cc nL own D dA fr lo mc ms) (hC : CT l y bytes maxL ret D dA fr1 lo1 mc1 ms1 wc (.ref b :: As) (some (.int r)) wc') (hT : GoodIn lw_all (wsV own index y.cls y (ws_ y bytes maxL ret))) (hcy : Callee y n) (hn : As.length = n) (hq : wc[q0]? = some (b, .inr (ci, fs))) (hcl : vwCl[ci]? = some (y.cls, T0, N)) (hroom : fr1 + 1 ≤ fr ∧ 8 + (maxL + 11) + lo1 ≤ lo) (hcat : (rest.map fun v => v.category).sum ≤ 8) (hd : decode cc pc = .ok (.invokevirtual index, 3)) (hf : ce + mc1 ≤ mc ∧ sl + ms1 ≤ ms) {st0 : List Value} (hst : st0 = As.reverse ++ .ref b :: rest) (k : TM G res M (wr ++ wc') (ce + mc1) (sl + ms1) (pc + 3) lv (.int r :: rest)) : TM G res M (wr ++ wc) ce sl pc lv st0 := by
  obtain ⟨p, e, R, s, m, args, below, meth, c, Q, A, ⟨hx, hb, hml, hown, hts⟩, hK, hN, hA, ⟨h1, h2, h3, h4⟩, hG⟩ := X
  intro hm
  rw [hG]
  intro H locs ls hP hD hS hl
  have hF := va_A.of (wc := wc) hD hS.1 hA (fun x h => List.mem_append_right _ h)
  refine callBehind (va_runV (As := As) (rest := rest) ⟨hx, hb, hml, hown, hts⟩ (hC H.size) (cwV n hts hT rfl rfl rfl ⟨rfl, hcy⟩ ⟨by rw [h1]; exact hroom.1, by rw [h2]; exact hroom.2⟩) ⟨PCx.blind, va_recv hK hP.right hcl hq, PCx.at hK hN hS hF hP.right hD.right⟩ rfl hn hl.1 hst (lv_room hcat) hd ⟨by rw [h3]; exact hf.1, by rw [h4]; exact hf.2⟩) hS hF (fun H1 locs1 hP1 hD1 hz hk hS1 => ?_)
  obtain ⟨hP2, hD2⟩ := frameLast hP hD hk hF hP1 hD1
  exact (hG ..).mp (k hm) H1 locs1 ls hP2 hD2 hS1 hl
theorem tm_callVLE {n q0 ci N : Nat} {T0 : u_T} {fs : List Value} (X : IsG G l cc nL own D dA fr lo mc ms) (hC : CTE l y bytes maxL ret D dA fr1 lo1 mc1 ms1 wc (.ref b :: As) Post) (hT : GoodIn lw_all (wsV own index y.cls y (ws_ y bytes maxL ret))) (hcy : Callee y n) (hn : As.length = n) (hq : wc[q0]? = some (b, .inr (ci, fs))) (hcl : vwCl[ci]? = some (y.cls, T0, N)) (hroom : fr1 + 1 ≤ fr ∧ 8 + (maxL + 11) + lo1 ≤ lo) (hcat : (rest.map fun v => v.category).sum ≤ 8) (hd : decode cc pc = .ok (.invokevirtual index, 3)) (hf : ce + mc1 ≤ mc ∧ sl + ms1 ≤ ms) {st0 : List Value} (hst : st0 = As.reverse ++ .ref b :: rest) (k : ∀ (rv : Option Value) (wc' : va_W), Post rv wc' → TM G res M (wr ++ wc') (ce + mc1) (sl + ms1) (pc + 3) lv (rv.toList ++ rest)) : TM G res M (wr ++ wc) ce sl pc lv st0 := by
  obtain ⟨p, e, R, s, m, args, below, meth, c, Q, A, ⟨hx, hb, hml, hown, hts⟩, hK, hN, hA, ⟨h1, h2, h3, h4⟩, hG⟩ := X
  intro hm
  rw [hG]
  intro H locs ls hP hD hS hl
  have hF := va_A.of (wc := wc) hD hS.1 hA (fun x h => List.mem_append_right _ h)
  refine callBehindE (va_runV (As := As) (rest := rest) ⟨hx, hb, hml, hown, hts⟩ (hC H.size) (cwV n hts hT rfl rfl rfl ⟨rfl, hcy⟩ ⟨by rw [h1]; exact hroom.1, by rw [h2]; exact hroom.2⟩) ⟨PCx.blind, va_recv hK hP.right hcl hq, PCx.at hK hN hS hF hP.right hD.right⟩ rfl hn hl.1 hst (lv_room hcat) hd ⟨by rw [h3]; exact hf.1, by rw [h4]; exact hf.2⟩) hS hF (fun rv wc' H1 locs1 hpo hP1 hD1 hz hk hS1 => ?_)
  obtain ⟨hP2, hD2⟩ := frameLast hP hD hk hF hP1 hD1
  exact (hG ..).mp (k rv wc' hpo hm) H1 locs1 ls hP2 hD2 hS1 hl
end LAWROWS
