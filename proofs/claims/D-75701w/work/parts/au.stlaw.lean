/-! law: the relation of the laws -/
set_option maxRecDepth 100000
theorem MKp_c {h h' : Hp} {K : List Nat} {L : List (Nat × Nat × Nat × Nat)} (H : MKp h K L) (e0 : h' 300 15 = h 300 15) (e2 : h' 222 = h 222) (e3 : h' 223 = h 223) (e4 : h' 224 = h 224) (e5 : h' 225 = h 225) (e6 : h' 226 = h 226) : MKp h' K L := by
  unfold MKp
  rw [e0, e2, e3, e4, e5, e6]
  exact H
theorem LWd_i {tt : TTy} {hx hm : Hp} {K : List Nat} {L : List (Nat × Nat × Nat × Nat)} (hP : Dst tt.2.2) (h70 : hx 70 3 = nI L.length) (hl : ∀ i z, L[i]? = some z → hx 71 i = nI z.1 ∧ ClR K tt.2.2 (tt.1, tt.2.1) i z) (hK : MKp hm K L) : LWd tt (hx 70 3) (hx 71) (hm 300 15) (hm 222) (hm 223) (hm 224) (hm 225) (hm 226) := by
  obtain ⟨su, co, P⟩ := tt
  dsimp only at hP hl
  have hL := hK.2.1
  unfold LWd
  refine ⟨by rw [h70, hK.1], fun V => ?_⟩
  have hC : ∀ i z, L[i]? = some z → ClR K P (su, co) i z := fun i z hz => (hl i z hz).2
  obtain ⟨j1, F1⟩ := Fst_ex V 120 hC L.length 0 (by omega)
  obtain ⟨j2, F2⟩ := Fst_ex V 118 hC L.length 0 (by omega)
  obtain ⟨j3, F3⟩ := Fst_ex V 121 hC L.length 0 (by omega)
  obtain ⟨f2, f2', X2⟩ := X_tells (cI := 118) (dv := 0) rfl (by decide) (by decide) hP hL F2
  obtain ⟨f3, f3', X3⟩ := X_tells (cI := 121) (dv := 1) rfl (by decide) (by decide) hP hL F3
  refine ⟨decide (j1 < L.length), Tlv j2 L.length f2 0, Tlv j3 L.length f3 1, fun x x70 x71 xV => ?_, fun m m15 m2 m3 m4 m5 m6 mV => ?_⟩
  · have y70 : x 70 3 = nI L.length := x70.trans h70
    have y71 : ∀ i z, L[i]? = some z → x 71 i = nI z.1 ∧ z.1 < 256 := fun i z hz => by
      rw [x71]
      exact ⟨(hl i z hz).1, (hK.2.2.2.2 i z hz).2.1⟩
    exact ⟨X_says hP hL y71 y70 xV F1, X2 x y71 y70 xV, X3 x y71 y70 xV⟩
  · have hK2 := MKp_c hK m15 m2 m3 m4 m5 m6
    refine ⟨?_, M_worn rfl (by decide) (by decide) hK2 mV F2 f2', M_worn rfl (by decide) (by decide) hK2 mV F3 f3'⟩
    obtain ⟨h', e1, e2⟩ := M_fst1 (cI := 120) rfl (by decide) hK2 mV F1
    refine ⟨nI j1, h', e1, e2, ?_⟩
    have := F1.2.1
    rw [hK.1, nI_leI (by omega) (by omega), decide_eq_false_iff_not]
    omega
section
variable {t t' : Nat → Nat} {n : Nat}
theorem nmb_c (e : ∀ i, hc t n i = hc t' n i) : ∀ k a v, nmb t n k a v = nmb t' n k a v
  | 0, a, v => by
    unfold nmb
    rw [e a]
  | k + 1, a, v => by
    unfold nmb
    rw [e a, nmb_c e k]
theorem zS_c (e : ∀ i, hc t n i = hc t' n i) : ∀ s, zS t n s = zS t' n s
  | (0, a, o, S, K, q) => by show z0 t n a K q = z0 t' n a K q; unfold z0; simp only [e]
  | (1, a, o, S, K, q) => by show zF t n a o S K q = zF t' n a o S K q; unfold zF; simp only [e, nmb_c e]
  | (2, a, o, S, K, q) => by show zA t n a o S K q = zA t' n a o S K q; unfold zA; simp only [e]
  | (3, a, o, S, K, q) => by show zC t n a K q = zC t' n a K q; unfold zC; simp only [e]
  | (4, a, o, S, K, q) => by show zP t n a o K q = zP t' n a o K q; unfold zP; simp only [e]
  | (5, a, o, S, K, q) => by show zB t n a o K q = zB t' n a o K q; unfold zB; simp only [e]
  | (6, a, o, S, K, q) => by show zE t n a o K q = zE t' n a o K q; unfold zE; simp only [e]
  | (m + 7, a, o, S, K, q) => by show zL t n a K q = zL t' n a K q; unfold zL; simp only [e]
theorem zR_c (e : ∀ i, hc t n i = hc t' n i) : ∀ f s, zR t n f s = zR t' n f s
  | 0, s => rfl
  | f + 1, s => by
    unfold zR
    rw [zS_c e]
    split
    · rfl
    · exact zR_c e f _
theorem Hz_c (e : ∀ i, hc t n i = hc t' n i) {s : Zs} {r : Zr} (H : Hz t n s r) : Hz t' n s r := by
  obtain ⟨f, H⟩ := H
  exact ⟨f, by rw [← zR_c e]; exact H⟩
end
