theorem NODEQ {C M : HS} {n : Nat} (H : RS C M n) (x w : Int32) : ∃ r, f_P_node x w C = some r ∧ f_M_node FU x w M = some (r, sF M 200 0 0) := by
  obtain ⟨hn, h1, h2, hT, ⟨a, h, g, pr, al, pt, d, hR, ha⟩, h7, h8⟩ := H
  obtain ⟨hb, ⟨hP, r2, r3, r4, r5, r6, r7⟩, -⟩ := hR
  have m19 : gF (sF M 200 0 0) 200 19 = nI a := (rFk (by decide)).trans r4
  unfold f_P_node f_M_node f_P_isNode
  rw [lt_e, r3, m19]
  rcases pkx x (show a < 2 ^ 31 by omega) with h0 | ⟨h0, hge, hnl⟩ | ⟨j, hj, e, h0, hlt, hng⟩
  · rw [if_pos h0, if_pos h0, ob_s, if_pos rfl]
    exact ⟨_, rfl, rfl⟩
  · rw [if_neg h0, if_neg h0, if_pos hge, if_neg hnl, ob_s, if_pos rfl]
    exact ⟨_, rfl, rfl⟩
  · rw [if_neg h0, if_neg h0, if_neg hng, if_pos hlt, ob_s, if_neg (show ¬ (1 : Int32) = 0 by decide)]
    subst e
    have hjh : j < h := by omega
    obtain ⟨q0, q1, q2, q3, q4, q5, q6, q7, q8⟩ := r5 j hj
    obtain ⟨t1, t2, t3⟩ := r6 j hj
    have hM : ∀ i, i < a → gF (sF M 200 0 0) 221 i = pI (pr i) := fun i hi => by rw [rFi (by decide), (r5 i hi).2.2.1, (r6 i hi).1]
    have w1 := within_e (x2 := 1) (M := sF M 200 0 0) (Or.inr rfl) r7 hM m19 (by omega) hj
    have w0 := within_e (x2 := 0) (M := sF M 200 0 0) (Or.inl rfl) r7 hM m19 (by omega) hj
    rw [if_neg (show ¬ (1 : Int32) = 0 by decide)] at w1
    rw [if_pos rfl] at w0
    have hal := (r7.2.2.1 j hj List.not_mem_nil).1
    have e2 : (1 : Int32) + nI (al j - 1) = gF C (1000 + 2 * j) 2 := by
      rw [t2, show (1 : Int32) = nI 1 from rfl, nI_add, show 1 + (al j - 1) = al j by omega]
    rw [w1, w0, ob_s, ob_s, e2, ← t3]
    simp only [cl_n (show j < 2 ^ 31 by omega), gd_pos (in_n (show j < 4200 by omega) (by decide)), gd_pos (in_n (show j < 8192 by omega) (by decide)), (hP.nd hjh).1, ob_s, gdN hP hjh, d3r, rFi (show (220 : Nat) ≠ 200 by decide), rFi (show (221 : Nat) ≠ 200 by decide), rFi (show (222 : Nat) ≠ 200 by decide), rFi (show (223 : Nat) ≠ 200 by decide), rFi (show (224 : Nat) ≠ 200 by decide), rFi (show (225 : Nat) ≠ 200 by decide), q0, q1, q2, q3, q4, q5]
    repeat' split
    all_goals exact ⟨_, rfl, rfl⟩
theorem NAMEQ {C M : HS} {n : Nat} (H : RS C M n) (x w : Int32) : ∃ r, f_P_name x w C = some r ∧ f_M_name x w M = some (r, sF M 200 0 0) := by
  obtain ⟨hn, h1, h2, hT, ⟨a, h, g, pr, al, pt, d, hR, ha⟩, h7, h8⟩ := H
  obtain ⟨hb, ⟨hP, r2, r3, r4, r5, r6, r7⟩, -⟩ := hR
  have m19 : gF (sF M 200 0 0) 200 19 = nI a := (rFk (by decide)).trans r4
  unfold f_P_name f_M_name f_P_isNode
  rw [lt_e, r3, m19]
  rcases pkx x (show a < 2 ^ 31 by omega) with h0 | ⟨h0, hge, hnl⟩ | ⟨j, hj, e, h0, hlt, hng⟩
  · rw [if_pos h0, if_pos h0, ob_s, if_pos rfl]
    exact ⟨_, rfl, rfl⟩
  · rw [if_neg h0, if_neg h0, if_pos hge, if_pos hge, ob_s, if_pos rfl]
    exact ⟨_, rfl, rfl⟩
  · rw [if_neg h0, if_neg h0, if_neg hng, if_neg hng, ob_s, if_neg (show ¬ (1 : Int32) = 0 by decide)]
    subst e
    have hjh : j < h := by omega
    obtain ⟨q0, q1, q2, q3, q4, q5, q6, q7, q8⟩ := r5 j hj
    simp only [cl_n (show j < 2 ^ 31 by omega), gd_pos (in_n (show j < 4200 by omega) (by decide)), gd_pos (in_n (show j < 8192 by omega) (by decide)), (hP.nd hjh).1, ob_s, gdN hP hjh, d3r, rLF, q7, q8]
    by_cases a0 : w = 0
    · subst a0
      rw [if_pos rfl, if_neg (show ¬ (0 : Int32) < 0 by decide), if_pos (show (0 : Int32) ≤ 1 by decide), if_pos rfl]
      exact ⟨_, rfl, rfl⟩
    · rw [if_neg a0, if_neg a0]
      by_cases a1 : w = 1
      · subst a1
        rw [if_pos rfl, if_neg (show ¬ (1 : Int32) < 0 by decide), if_pos (show (1 : Int32) ≤ 1 by decide)]
        exact ⟨_, rfl, rfl⟩
      · rw [if_neg a1]
        by_cases b0 : w < 0
        · rw [if_pos b0]; exact ⟨_, rfl, rfl⟩
        · rw [if_neg b0, if_neg (fun b1 => ?_)]
          · exact ⟨_, rfl, rfl⟩
          · obtain ⟨i, hi, e⟩ := nI_of b0
            subst e
            rw [show (1 : Int32) = nI 1 from rfl, nI_leI hi (by decide)] at b1
            have : i = 0 ∨ i = 1 := by omega
            rcases this with rfl | rfl
            · exact a0 rfl
            · exact a1 rfl
theorem NUMQ {C M : HS} {n : Nat} (H : RS C M n) (x : Int32) : ∃ r, f_P_number x C = some r ∧ f_M_number x M = some (r, sF M 200 0 0) := by
  obtain ⟨hn, h1, h2, hT, ⟨a, h, g, pr, al, pt, d, hR, ha⟩, h7, h8⟩ := H
  obtain ⟨hb, ⟨hP, r2, r3, r4, r5, r6, r7⟩, -⟩ := hR
  have m19 : gF (sF M 200 0 0) 200 19 = nI a := (rFk (by decide)).trans r4
  unfold f_P_number f_M_number f_P_isNode
  rw [lt_e, r3, m19]
  rcases pkx x (show a < 2 ^ 31 by omega) with h0 | ⟨h0, hge, hnl⟩ | ⟨j, hj, e, h0, hlt, hng⟩
  · rw [if_pos h0, if_pos h0, ob_s, if_pos rfl]
    exact ⟨_, rfl, rfl⟩
  · rw [if_neg h0, if_neg h0, if_pos hge, if_neg hnl, ob_s, if_pos rfl]
    exact ⟨_, rfl, rfl⟩
  · rw [if_neg h0, if_neg h0, if_neg hng, if_pos hlt, ob_s, if_neg (show ¬ (1 : Int32) = 0 by decide)]
    subst e
    have hjh : j < h := by omega
    obtain ⟨q0, q1, q2, q3, q4, q5, q6, q7, q8⟩ := r5 j hj
    simp only [cl_n (show j < 2 ^ 31 by omega), gd_pos (in_n (show j < 4200 by omega) (by decide)), gd_pos (in_n (show j < 8192 by omega) (by decide)), (hP.nd hjh).1, ob_s, gdN hP hjh, d3r, rFi (show (226 : Nat) ≠ 200 by decide), q6]
    exact ⟨_, rfl, rfl⟩
