set_option maxRecDepth 100000
theorem lw_U {own : String} {idx : Nat} {C owner : String} {x y : MethodName} {b : ByteArray} {L : Nat} {r : Option FieldType} (h1 : Cond.methodLink own idx x ∈ lw_all) (h2 : Cond.sameMethod x.cls owner x.name x.desc ∈ lw_all) (h3 : Cond.selects C x y ∈ lw_all) (h4 : Cond.instanceMethod y ∈ lw_all) (h5 : Cond.initialized y.cls ∈ lw_all) (h6 : Cond.code y b L r ∈ lw_all) : GoodIn lw_all (va_wsU own idx C owner x y (ws_ y b L r)) := by
  refine lw_app ?_ (lw_meth h6)
  intro w hw
  simp only [List.mem_cons, List.not_mem_nil, or_false] at hw
  rcases hw with e | e | e | e | e
  · rw [e]; exact h1
  · rw [e]; exact h2
  · rw [e]; exact h3
  · rw [e]; exact h4
  · rw [e]; exact h5
section ROWSU
variable {G : Gty} {l : Launch} {cc : ByteArray} {nL : Nat} {own : String} {D : va_G} {dA : Nat → ClassId} {fr lo mc ms : Nat} {ρ : Type} {res : ρ} {M : Option ρ} {w wc' : va_W} {ce sl pc : Nat} {lv : List (Nat × Value)} {st rest : List Value}
variable {y x : MethodName} {bytes : ByteArray} {maxL : Nat} {ret : Option FieldType} {fr1 lo1 mc1 ms1 : Nat} {As : List Value} {rv : Option Value} {b : Nat} {index : Nat} {C owner : String}
theorem tm_nmH {wf : Hp → va_W} {e : Hp} {F : Hp → Option ρ} (k : ∀ x : Hp, TM G res (F x) (wf x) ce sl pc lv st) : TM G res (nm e F) (wf e) ce sl pc lv st := k e
/-- an inherited method -/
theorem tm_callU {n q0 ci N : Nat} {T0 : u_T} {fs : List Value} (X : IsG G l cc nL own D dA fr lo mc ms) (hC : CT l y bytes maxL ret D dA fr1 lo1 mc1 ms1 w (.ref b :: As) rv wc') (hyx : y = ⟨owner, x.name, x.desc⟩) (hT : GoodIn lw_all (va_wsU own index C owner x y (ws_ y bytes maxL ret))) (hcy : Callee y n) (hn : As.length = n)
    (hq : w[q0]? = some (b, .inr (ci, fs))) (hcl : vwCl[ci]? = some (C, T0, N)) (hroom : fr1 + 1 ≤ fr ∧ 8 + (maxL + 11) + lo1 ≤ lo) (hcat : (rest.map fun v => v.category).sum ≤ 8) (hd : decode cc pc = .ok (.invokevirtual index, 3)) (hf : ce + mc1 ≤ mc ∧ sl + ms1 ≤ ms)
    {st0 : List Value} (hst : st0 = As.reverse ++ .ref b :: rest) (k : TM G res M wc' (ce + mc1) (sl + ms1) (pc + 3) lv (rv.toList ++ rest)) : TM G res M w ce sl pc lv st0 := by
  obtain ⟨p, e, R, s, m, args, below, meth, c, Q, A, ⟨hx, hb, hml, hown, hts⟩, hK, hN, hA, ⟨h1, h2, h3, h4⟩, hG⟩ := X
  intro hm
  rw [hG]
  intro H locs ls hP hD hS hl
  have hF := va_A.of hD hS.1 hA (fun x h => h)
  have hcy' : owner ≠ "java/lang/invoke/MethodHandle" ∧ owner ≠ "java/lang/invoke/VarHandle" ∧ (parseMethodDescriptor x.desc).map (fun d => d.parameters.length) = some n := by
    have := hcy
    unfold Callee at this
    rw [hyx] at this
    exact this
  refine callBehind (va_runU (As := As) (rest := rest) ⟨hx, hb, hml, hown, hts⟩ (hC H.size) (va_cwU n hts hT rfl rfl rfl hyx hcy' ⟨by rw [h1]; exact hroom.1, by rw [h2]; exact hroom.2⟩) ⟨PCx.blind, va_recv hK hP hcl hq, PCx.at hK hN hS hF hP hD⟩ rfl hn hl.1 hst (lv_room hcat) hd ⟨by rw [h3]; exact hf.1, by rw [h4]; exact hf.2⟩) hS hF (fun H1 locs1 hP1 hD1 hz hk hS1 => ?_)
  exact (hG ..).mp (k hm) H1 locs1 ls hP1 (hD1.weaken (fun _ q _ h => hF q.1 h)) hS1 hl
theorem tm_callUi {r : Int32} {n q0 ci N : Nat} {T0 : u_T} {fs : List Value} (X : IsG G l cc nL own D dA fr lo mc ms) (hC : CT l y bytes maxL ret D dA fr1 lo1 0 0 w (.ref b :: As) (some (.int r)) wc') (hyx : y = ⟨owner, x.name, x.desc⟩) (hT : GoodIn lw_all (va_wsU own index C owner x y (ws_ y bytes maxL ret))) (hcy : Callee y n) (hn : As.length = n) (hq : w[q0]? = some (b, .inr (ci, fs))) (hcl : vwCl[ci]? = some (C, T0, N)) (hroom : fr1 + 1 ≤ fr ∧ 8 + (maxL + 11) + lo1 ≤ lo) (hcat : (rest.map fun v => v.category).sum ≤ 8) (hd : decode cc pc = .ok (.invokevirtual index, 3)) (hf : ce ≤ mc ∧ sl ≤ ms) {st0 : List Value} (hst : st0 = As.reverse ++ .ref b :: rest) (k : TM G res M wc' ce sl (pc + 3) lv (.int r :: rest)) : TM G res M w ce sl pc lv st0 := tm_callU X hC hyx hT hcy hn hq hcl hroom hcat hd hf hst k
theorem tm_callUv  {n q0 ci N : Nat} {T0 : u_T} {fs : List Value} (X : IsG G l cc nL own D dA fr lo mc ms) (hC : CT l y bytes maxL ret D dA fr1 lo1 0 0 w (.ref b :: As) none wc') (hyx : y = ⟨owner, x.name, x.desc⟩) (hT : GoodIn lw_all (va_wsU own index C owner x y (ws_ y bytes maxL ret))) (hcy : Callee y n) (hn : As.length = n) (hq : w[q0]? = some (b, .inr (ci, fs))) (hcl : vwCl[ci]? = some (C, T0, N)) (hroom : fr1 + 1 ≤ fr ∧ 8 + (maxL + 11) + lo1 ≤ lo) (hcat : (rest.map fun v => v.category).sum ≤ 8) (hd : decode cc pc = .ok (.invokevirtual index, 3)) (hf : ce ≤ mc ∧ sl ≤ ms) {st0 : List Value} (hst : st0 = As.reverse ++ .ref b :: rest) (k : TM G res M wc' ce sl (pc + 3) lv rest) : TM G res M w ce sl pc lv st0 := tm_callU X hC hyx hT hcy hn hq hcl hroom hcat hd hf hst k
end ROWSU
