-- what is seen of definitions and nodes
theorem pkx (x : Int32) {d : Nat} (hd : d < 2 ^ 31) : x < 0 ∨ (¬ x < 0 ∧ nI d ≤ x ∧ ¬ x < nI d) ∨ ∃ j, j < d ∧ x = nI j ∧ ¬ x < 0 ∧ x < nI d ∧ ¬ nI d ≤ x := by
  by_cases h0 : x < 0
  · exact Or.inl h0
  · right
    obtain ⟨j, hj, e⟩ := nI_of h0
    by_cases h : j < d
    · exact Or.inr ⟨j, h, e, h0, by rw [e]; exact nI_lt h hd, by rw [e]; exact nI_ge h hd⟩
    · exact Or.inl ⟨h0, by rw [e]; exact nI_le (by omega) hj, by rw [e]; exact nI_nlt (by omega) hj⟩
theorem DEFN {C M : HS} {n : Nat} (H : RS C M n) (x w : Int32) : ∃ r, f_P_definition x w C = some r ∧ f_M_definition x w M = some (r, sF M 200 0 0) := by
  obtain ⟨hn, h1, h2, hT, ⟨a, h, g, pr, al, pt, d, hR, ha⟩, h7, h8⟩ := H
  have hP := hR.2.1.1
  have c4 := hR.2.2.1
  have m10 : gF (sF M 200 0 0) 200 10 = nI d := (rFk (by decide)).trans hR.2.2.2.1
  have hd := hR.2.2.2.2.1
  unfold f_P_definition f_M_definition f_M_isDefinition
  rw [lt_e, c4, m10]
  rcases pkx x (show d < 2 ^ 31 by omega) with h0 | ⟨h0, hge, hnl⟩ | ⟨j, hj, e, h0, hlt, hng⟩
  · rw [if_pos h0, if_pos h0, ob_s, if_pos rfl]
    exact ⟨_, rfl, rfl⟩
  · rw [if_neg h0, if_neg h0, if_neg hnl, if_pos hge, ob_s, if_pos rfl]
    exact ⟨_, rfl, rfl⟩
  · rw [if_neg h0, if_neg h0, if_pos hlt, if_neg hng, ob_s, if_neg (show ¬ (1 : Int32) = 0 by decide)]
    subst e
    obtain ⟨⟨m, q1, q2, q3, q4, q5, q6, q7⟩, q8, q9⟩ := hR.2.2.2.2.2 j hj
    have hj64 : j < 64 := by omega
    simp only [cl_n (show j < 2 ^ 31 by omega), gd_pos (in_n hj64 (by decide)), gdD hP hj64, d3r, rFi (show (211 : Nat) ≠ 200 by decide), rFi (show (212 : Nat) ≠ 200 by decide), rFi (show (213 : Nat) ≠ 200 by decide), rFi (show (214 : Nat) ≠ 200 by decide), rFi (show (215 : Nat) ≠ 200 by decide), q1.1, q2, q4, q5, q8, q9]
    by_cases w0 : w = 0
    · rw [if_pos w0, if_pos w0]
      rcases q1.2 with z | z
      · rw [z, if_pos rfl]; exact ⟨_, rfl, rfl⟩
      · rw [z, if_neg (show ¬ (1 : Int32) = 0 by decide)]; exact ⟨_, rfl, rfl⟩
    · rw [if_neg w0, if_neg w0]
      repeat' split
      all_goals exact ⟨_, rfl, rfl⟩
theorem TITLE {C M : HS} {n : Nat} (H : RS C M n) (x w : Int32) : ∃ r, f_P_title x w C = some r ∧ f_M_title x w M = some (r, sF M 200 0 0) := by
  obtain ⟨hn, h1, h2, hT, ⟨a, h, g, pr, al, pt, d, hR, ha⟩, h7, h8⟩ := H
  have hP := hR.2.1.1
  have c4 := hR.2.2.1
  have m10 : gF (sF M 200 0 0) 200 10 = nI d := (rFk (by decide)).trans hR.2.2.2.1
  have hd := hR.2.2.2.2.1
  unfold f_P_title f_M_title f_M_isDefinition
  rw [lt_e, c4, m10]
  rcases pkx x (show d < 2 ^ 31 by omega) with h0 | ⟨h0, hge, hnl⟩ | ⟨j, hj, e, h0, hlt, hng⟩
  · rw [if_pos h0, if_pos h0, ob_s, if_pos rfl]
    exact ⟨_, rfl, rfl⟩
  · rw [if_neg h0, if_neg h0, if_pos hge, if_pos hge, ob_s, if_pos rfl]
    exact ⟨_, rfl, rfl⟩
  · rw [if_neg h0, if_neg h0, if_neg hng, if_neg hng, ob_s, if_neg (show ¬ (1 : Int32) = 0 by decide), ob_s, if_neg (show ¬ (1 : Int32) = 0 by decide)]
    subst e
    obtain ⟨⟨m, q1, q2, q3, q4, q5, q6, q7⟩, q8, q9⟩ := hR.2.2.2.2.2 j hj
    have hj64 : j < 64 := by omega
    by_cases hw1 : w < -1
    · rw [if_pos hw1, if_pos hw1]
      exact ⟨_, rfl, rfl⟩
    · rw [if_neg hw1, if_neg hw1]
      unfold f_M_title_b36
      simp only [cl_n (show j < 2 ^ 31 by omega), gd_pos (in_n hj64 (by decide)), gdD hP hj64, gdA hP hj64, d3r, rFi (show (213 : Nat) ≠ 200 by decide), q4, q5, rLF, q3]
      rcases pkx w (show m < 2 ^ 31 by omega) with w0 | ⟨w0, hge', hnl'⟩ | ⟨i, hi, e, w0, hlt', hng'⟩
      · have hl : w < nI m := by
          rw [Int32.lt_iff_toInt_lt] at w0 ⊢
          rw [nI_toInt (by omega)]
          have : (0 : Int32).toInt = 0 := rfl
          omega
        have nn : ¬ 0 ≤ w := Int32.not_le.mpr w0
        rw [if_pos hl, if_pos hl, if_neg nn, if_neg nn]
        exact ⟨_, rfl, rfl⟩
      · rw [if_neg hnl', if_neg hnl']
        exact ⟨_, rfl, rfl⟩
      · have nn : (0 : Int32) ≤ w := Int32.not_lt.mp w0
        rw [if_pos hlt', if_pos hlt', if_pos nn, if_pos nn]
        subst e
        rw [gd_pos (in_n (show i < 8 by omega) (by decide)), cl_n (by omega), show (8 : Int32) = nI 8 from rfl, pk_mul, nI_add, gd_pos (in_n (show 8 * j + i < 512 by omega) (by decide)), cl_n (by omega), (q7 i hi).1]
        exact ⟨_, rfl, rfl⟩
theorem PARQ {C M : HS} {n : Nat} (H : RS C M n) (x w : Int32) : ∃ r, f_P_parameter x w C = some r ∧ f_M_parameter x w M = some (r, sF M 200 0 0) := by
  obtain ⟨hn, h1, h2, hT, ⟨a, h, g, pr, al, pt, d, hR, ha⟩, h7, h8⟩ := H
  have hP := hR.2.1.1
  have c4 := hR.2.2.1
  have m10 : gF (sF M 200 0 0) 200 10 = nI d := (rFk (by decide)).trans hR.2.2.2.1
  have hd := hR.2.2.2.2.1
  unfold f_P_parameter f_M_parameter f_M_isDefinition
  rw [lt_e, c4, m10]
  rcases pkx x (show d < 2 ^ 31 by omega) with h0 | ⟨h0, hge, hnl⟩ | ⟨j, hj, e, h0, hlt, hng⟩
  · rw [if_pos h0, if_pos h0, ob_s, if_pos rfl]
    exact ⟨_, rfl, rfl⟩
  · rw [if_neg h0, if_neg h0, if_pos hge, if_pos hge, ob_s, if_pos rfl]
    exact ⟨_, rfl, rfl⟩
  · rw [if_neg h0, if_neg h0, if_neg hng, if_neg hng, ob_s, if_neg (show ¬ (1 : Int32) = 0 by decide), ob_s, if_neg (show ¬ (1 : Int32) = 0 by decide)]
    subst e
    obtain ⟨⟨m, q1, q2, q3, q4, q5, q6, q7⟩, q8, q9⟩ := hR.2.2.2.2.2 j hj
    have hj64 : j < 64 := by omega
    unfold f_M_parameter_b35
    simp only [cl_n (show j < 2 ^ 31 by omega), gd_pos (in_n hj64 (by decide)), gdD hP hj64, gdB hP hj64, d3r, rFi (show (213 : Nat) ≠ 200 by decide), rFi (show (218 : Nat) ≠ 200 by decide), q4, q5]
    rcases pkx w (show m < 2 ^ 31 by omega) with w0 | ⟨w0, hge', hnl'⟩ | ⟨i, hi, e, w0, hlt', hng'⟩
    · rw [if_pos w0, if_pos w0]
      exact ⟨_, rfl, rfl⟩
    · rw [if_neg w0, if_neg w0, if_neg hnl', if_pos hge']
      exact ⟨_, rfl, rfl⟩
    · rw [if_neg w0, if_neg w0, if_pos hlt', if_neg hng']
      subst e
      rw [gd_pos (in_n (show i < 8 by omega) (by decide)), cl_n (by omega), show (8 : Int32) = nI 8 from rfl, pk_mul, nI_add, gd_pos (in_n (show 8 * j + i < 512 by omega) (by decide)), cl_n (by omega), (q7 i hi).2]
      exact ⟨_, rfl, rfl⟩
