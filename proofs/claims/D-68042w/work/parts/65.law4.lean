-- giving bytes, wiping
def gvB (v : Int64) (k : Nat) : Int32 := (((v >>> (((8 : Int32) * nI k).toInt64 &&& 63)).toInt32).toInt8.toInt32).toInt8.toInt32
theorem C_giv {v : Int64} : ∀ (f k s : Nat) (C : HS), gF C 1 1 = nI s → s + k + 1 ≤ 8192 → k + 1 < f → k < 8 → ∃ C', f_P_give_b33 FU f v (nI k) C = some (1, C') ∧ gF C' 1 1 = nI (s + k + 1) ∧ (∀ j, gF C' 2 j = if s ≤ j ∧ j < s + k + 1 then gvB v (k - (j - s)) else gF C 2 j) ∧ (∀ i q, i ≠ 2 → ¬ (i = 1 ∧ q = 1) → gF C' i q = gF C i q) ∧ (∀ i q, gL C' i q = gL C i q) ∧ (∀ i q, gX C' i q = gX C i q) ∧ C'.2.2.2 = C.2.2.2
  | 0, k, s, C, _, _, h, _ => absurd h (by omega)
  | f + 1, k, s, C, h1, hs, hf, hk => by
    have e0 : f_P_give_b33 FU (f + 1) v (nI k) C = f_P_give_b33 FU f v (nI k + -1) (sF (sF C 2 s (gvB v k)) 1 1 (nI (s + 1))) := by
      show f_P_give_b33B FU (f_P_give_b33 FU f) v (nI k) C = _
      unfold f_P_give_b33B
      rw [if_neg (nI_pos (by omega)), h1, gd_pos (in_n (by omega) (by decide)), lt_e, cl_n (by omega), lt_e, rFi (by decide), h1, nI_1, lt_e]
      rfl
    rw [e0]
    cases k with
    | zero =>
      obtain ⟨f2, rfl⟩ : ∃ f2, f = f2 + 1 := ⟨f - 1, by omega⟩
      refine ⟨sF (sF C 2 s (gvB v 0)) 1 1 (nI (s + 1)), ?_, rFy, fun j => ?_, fun i q h2 h3 => ?_, fun _ _ => rfl, fun _ _ => rfl, rfl⟩
      · show f_P_give_b33B FU (f_P_give_b33 FU f2) v (nI 0 + -1) _ = _
        unfold f_P_give_b33B
        rw [if_pos (show nI 0 + -1 < 0 by decide)]
      · rw [rFi (by decide), rF]
        by_cases e : j = s
        · rw [if_pos ⟨rfl, e⟩, if_pos (by omega), Nat.zero_sub]
        · rw [if_neg (fun z => e z.2), if_neg (by omega)]
      · rw [rF, if_neg h3, rFi h2]
    | succ k =>
      rw [pk_m1]
      obtain ⟨C', x1, x2, x3, x4, x5, x6, x7⟩ := C_giv (v := v) f k (s + 1) (sF (sF C 2 s (gvB v (k + 1))) 1 1 (nI (s + 1))) rFy (by omega) (by omega) (by omega)
      refine ⟨C', x1, by rw [x2, show s + 1 + k + 1 = s + (k + 1) + 1 by omega], fun j => ?_, fun i q h2 h3 => ?_, fun i q => (x5 i q).trans rfl, fun i q => (x6 i q).trans rfl, x7.trans rfl⟩
      · rw [x3 j, rFi (by decide), rF]
        by_cases e : j = s
        · rw [if_neg (by omega), if_pos ⟨rfl, e⟩, if_pos (by omega), show k + 1 - (j - s) = k + 1 by omega]
        · rw [if_neg (show ¬ ((2 : Nat) = 2 ∧ j = s) from fun z => e z.2)]
          by_cases q : s + 1 ≤ j ∧ j < s + 1 + k + 1
          · rw [if_pos q, if_pos (by omega), show k - (j - (s + 1)) = k + 1 - (j - s) by omega]
          · rw [if_neg q, if_neg (by omega)]
      · rw [x4 i q h2 h3, rF, if_neg h3, rFi h2]
theorem M_giv {v : Int64} : ∀ (f k s : Nat) (M : HS), gF M 200 2 = nI s → s + k + 1 ≤ 8192 → k + 1 < f → k < 8 → ∃ M', f_M_give_b35 FU f v (nI k) M = some (1, M') ∧ gF M' 200 2 = nI (s + k + 1) ∧ (∀ j, gF M' 201 j = if s ≤ j ∧ j < s + k + 1 then gvB v (k - (j - s)) else gF M 201 j) ∧ (∀ i q, i ≠ 201 → ¬ (i = 200 ∧ q = 2) → gF M' i q = gF M i q) ∧ (∀ i q, gL M' i q = gL M i q) ∧ (∀ i q, gX M' i q = gX M i q) ∧ M'.2.2.2 = M.2.2.2
  | 0, k, s, M, _, _, h, _ => absurd h (by omega)
  | f + 1, k, s, M, h1, hs, hf, hk => by
    have e0 : f_M_give_b35 FU (f + 1) v (nI k) M = f_M_give_b35 FU f v (nI k + -1) (sF (sF M 201 s (gvB v k)) 200 2 (nI (s + 1))) := by
      show f_M_give_b35B FU (f_M_give_b35 FU f) v (nI k) M = _
      unfold f_M_give_b35B
      rw [if_neg (nI_pos (by omega)), h1, gd_pos (in_n (by omega) (by decide)), lt_e, cl_n (by omega), lt_e, rFi (by decide), h1, nI_1, lt_e]
      rfl
    rw [e0]
    cases k with
    | zero =>
      obtain ⟨f2, rfl⟩ : ∃ f2, f = f2 + 1 := ⟨f - 1, by omega⟩
      refine ⟨sF (sF M 201 s (gvB v 0)) 200 2 (nI (s + 1)), ?_, rFy, fun j => ?_, fun i q h2 h3 => ?_, fun _ _ => rfl, fun _ _ => rfl, rfl⟩
      · show f_M_give_b35B FU (f_M_give_b35 FU f2) v (nI 0 + -1) _ = _
        unfold f_M_give_b35B
        rw [if_pos (show nI 0 + -1 < 0 by decide)]
      · rw [rFi (by decide), rF]
        by_cases e : j = s
        · rw [if_pos ⟨rfl, e⟩, if_pos (by omega), Nat.zero_sub]
        · rw [if_neg (fun z => e z.2), if_neg (by omega)]
      · rw [rF, if_neg h3, rFi h2]
    | succ k =>
      rw [pk_m1]
      obtain ⟨M', x1, x2, x3, x4, x5, x6, x7⟩ := M_giv (v := v) f k (s + 1) (sF (sF M 201 s (gvB v (k + 1))) 200 2 (nI (s + 1))) rFy (by omega) (by omega) (by omega)
      refine ⟨M', x1, by rw [x2, show s + 1 + k + 1 = s + (k + 1) + 1 by omega], fun j => ?_, fun i q h2 h3 => ?_, fun i q => (x5 i q).trans rfl, fun i q => (x6 i q).trans rfl, x7.trans rfl⟩
      · rw [x3 j, rFi (by decide), rF]
        by_cases e : j = s
        · rw [if_neg (by omega), if_pos ⟨rfl, e⟩, if_pos (by omega), show k + 1 - (j - s) = k + 1 by omega]
        · rw [if_neg (show ¬ ((201 : Nat) = 201 ∧ j = s) from fun z => e z.2)]
          by_cases q : s + 1 ≤ j ∧ j < s + 1 + k + 1
          · rw [if_pos q, if_pos (by omega), show k - (j - (s + 1)) = k + 1 - (j - s) by omega]
          · rw [if_neg q, if_neg (by omega)]
      · rw [x4 i q h2 h3, rF, if_neg h3, rFi h2]
