/-! tour: the reference, whole -/
set_option maxRecDepth 100000
theorem M_tour {h : Hp} {n t : Nat} (h1 : 1 ≤ n) (hn : n ≤ 80) (h6 : h 300 6 = nI t) (hnt : n ≤ t) (ht : t ≤ 260) : R (mX5_tour h (nI n)) (tE h (tR (tM h) n 82 0 0 (fun _ => 0) [])) := by
  unfold mX5_tour
  rw [M_wi1 _ 80 80 (by decide), show nR (nI n - 1) 80 = true from ?_, cl1_s, nm_s, bI_t, i10, h6, if_pos (nI_le hnt (by omega))]
  · unfold mX5_beginsText
    rw [nm_s, nm_s, nm_s, nm_s, cl1_s, nm_s, nm_s]
    have e : tM (u2 (u2 (u2 (u2 (u2 (u2 h 300 7 0) 300 8 (nI n)) 300 12 0) 300 14 0) 300 40 0) 300 41 0) = tM h := rfl
    rw [← e]
    refine M_tourL hn ⟨⟨?_, ?_, by omega, by omega⟩, ?_, by omega, fun i hi => absurd hi (by omega), ?_, by decide, fun i z hz => ?_⟩ ?_ ?_ ?_ ?_
    · rw [u2_e, upd_n (by decide), u2_e, upd_n (by decide), u2_e, upd_n (by decide), u2_e, upd_n (by decide), u2_e, upd_e]
    · rw [u2_e, upd_n (by decide), u2_e, upd_n (by decide), u2_e, upd_n (by decide), u2_e, upd_n (by decide), u2_e, upd_n (by decide), u2_e, upd_e]
      rfl
    · rw [u2_e, upd_n (by decide), u2_e, upd_e]
      rfl
    · rw [u2_e, upd_e]
      rfl
    · cases hz
    · intro q hq
      have h3 : q ≠ 300 := fun e => hq (by rw [e]; simp)
      rw [u2_n h3, u2_n h3, u2_n h3, u2_n h3, u2_n h3, u2_n h3]
    · intro i hi
      simp only [List.mem_cons, List.not_mem_nil, or_false, not_or] at hi
      rw [u2_e, upd_n (by omega), u2_e, upd_n (by omega), u2_e, upd_n (by omega), u2_e, upd_n (by omega), u2_e, upd_n (by omega), u2_e, upd_n (by omega)]
    · rw [u2_e, upd_n (by decide), u2_e, upd_n (by decide), u2_e, upd_n (by decide), u2_e, upd_n (by decide), u2_e, upd_n (by decide), u2_e, upd_n (by decide)]
    · rw [u2_n (by decide), u2_n (by decide), u2_n (by decide), u2_n (by decide), u2_n (by decide), u2_n (by decide)]
  · unfold nR
    rw [show nI n - 1 = nI (n - 1) from nI_subn (b := 1) h1, nI_toInt (by omega)]
    exact decide_eq_true (by omega)
