/-- the relation after n grew or was wiped -/
theorem RS.txt {C C' M M' : HS} {n n' : Nat} (H : RS C M n) (hn' : n' ≤ 512) (c1 : gF C' 1 1 = nI n') (m2 : gF M' 200 2 = nI n') (hT : ∀ j, j < n' → gF M' 201 j = gF C' 2 j) (kC : ∀ i q, i ≠ 2 → ¬ (i = 1 ∧ q = 1) → gF C' i q = gF C i q) (kL : ∀ i q, gL C' i q = gL C i q) (kX : ∀ i q, gX C' i q = gX C i q) (kD : C'.2.2.2 = C.2.2.2) (kM : ∀ i q, i ≠ 201 → ¬ (i = 200 ∧ (q = 2 ∨ q = 0)) → gF M' i q = gF M i q) (kN : ∀ i q, gL M' i q = gL M i q) : RS C' M' n' := by
  obtain ⟨hn, h1, h2, hT0, ⟨a, h, g, pr, al, pt, d, hR, ha⟩, h7, h8⟩ := H
  exact ⟨hn', c1, m2, hT, ⟨a, h, g, pr, al, pt, d, hR.cg (fun i k q => kC i k (by omega) (by omega)) (fun i k q => kL i k) (fun i k q => kX i k) kD (fun i k q => kM i k (by omega) (by omega)) (fun i k q => kN i k), ha⟩, by rw [kC 0 7 (by decide) (by decide), kM 200 3 (by decide) (by decide), h7], by rw [kC 0 8 (by decide) (by decide), kM 200 4 (by decide) (by decide), h8]⟩
theorem GIVE {C M : HS} {n : Nat} (H : RS C M n) (hn : n + 8 ≤ 512) (v : Int64) (x : Int32) : ∃ r C' M' n', f_P_give FU v x C = some (r, C') ∧ f_M_give FU v x M = some (r, M') ∧ n' ≤ n + 8 ∧ GC C C' ∧ (∀ i q, ¬ (200 ≤ i ∧ i ≤ 230) → gF M' i q = gF M i q ∧ gL M' i q = gL M i q) ∧ (∀ i q, gX M' i q = gX M i q) ∧ M'.2.2.2 = M.2.2.2 ∧ C'.2.2.2 = C.2.2.2 ∧ (∀ i q, gX C' i q = gX C i q) ∧ RS C' M' n' := by
  have h1 := H.2.1
  have h2 := H.2.2.1
  have m2 : gF (sF M 200 0 0) 200 2 = nI n := (rFk (by decide)).trans h2
  have same : ∃ r C' M' n', some ((0 : Int32), C) = some (r, C') ∧ some ((0 : Int32), sF M 200 0 0) = some (r, M') ∧ n' ≤ n + 8 ∧ GC C C' ∧ (∀ i q, ¬ (200 ≤ i ∧ i ≤ 230) → gF M' i q = gF M i q ∧ gL M' i q = gL M i q) ∧ (∀ i q, gX M' i q = gX M i q) ∧ M'.2.2.2 = M.2.2.2 ∧ C'.2.2.2 = C.2.2.2 ∧ (∀ i q, gX C' i q = gX C i q) ∧ RS C' M' n' := ⟨0, C, sF M 200 0 0, n, rfl, rfl, by omega, GC.rf, fun i q hi => ⟨by rw [rFi (by omega)], rfl⟩, fun _ _ => rfl, rfl, rfl, fun _ _ => rfl, H.thr⟩
  unfold f_P_give f_M_give
  simp only [lt_e, h1, m2]
  by_cases a : x < 1
  · rw [if_pos a, if_pos a]; exact same
  · rw [if_neg a, if_neg a]
    by_cases b : (8 : Int32) < x
    · rw [if_pos b, if_pos b]; exact same
    · rw [if_neg b, if_neg b]
      have h0 : ¬ x < 0 := fun q => a (by
        rw [Int32.lt_iff_toInt_lt] at q ⊢
        have e0 : (0 : Int32).toInt = 0 := rfl
        have e1 : (1 : Int32).toInt = 1 := rfl
        omega)
      obtain ⟨j, hj, e⟩ := nI_of h0
      subst e
      have j1 : 1 ≤ j := by
        refine Decidable.byContradiction (fun q => a ?_)
        rw [show (1 : Int32) = nI 1 from rfl]
        exact nI_lt (by omega) (by decide)
      have j8 : j ≤ 8 := by
        refine Decidable.byContradiction (fun q => b ?_)
        rw [show (8 : Int32) = nI 8 from rfl]
        exact nI_lt (by omega) hj
      have le : nI n + nI j ≤ 8192 := by
        rw [nI_add, show (8192 : Int32) = nI 8192 from rfl]
        exact nI_le (by omega) (by decide)
      rw [if_pos le, if_pos le, show (nI j - 1 : Int32) = nI (j - 1) from pk_sub (b := 1) j1]
      obtain ⟨C', x1, x2, x3, x4, x5, x6, x7⟩ := C_giv (v := v) FU (j - 1) n C h1 (by omega) (by show _ < 10000; omega) (by omega)
      obtain ⟨M', y1, y2, y3, y4, y5, y6, y7⟩ := M_giv (v := v) FU (j - 1) n (sF M 200 0 0) m2 (by omega) (by show _ < 10000; omega) (by omega)
      refine ⟨1, C', M', n + (j - 1) + 1, x1, y1, by omega, fun i q q1 q2 => ⟨x4 i q (by omega) (by omega), x5 i q⟩, fun i q hi => ⟨by rw [y4 i q (by omega) (by omega), rFi (by omega)], y5 i q⟩, fun i q => (y6 i q).trans rfl, y7.trans rfl, x7, x6, H.txt (by omega) x2 y2 (fun i hi => ?_) x4 x5 x6 x7 (fun i q q1 q2 => by rw [y4 i q q1 (by omega), rF, if_neg (by omega)]) (fun i q => y5 i q)⟩
      rw [x3 i, y3 i]
      by_cases q : n ≤ i ∧ i < n + (j - 1) + 1
      · rw [if_pos q, if_pos q]
      · rw [if_neg q, if_neg q, rFi (by decide), H.2.2.2.1 i (by omega)]
theorem WIPE {C M : HS} {n : Nat} (H : RS C M n) : f_P_wipe C = some (sF C 1 1 0) ∧ f_M_wipe M = some (sF (sF M 200 0 0) 200 2 0) ∧ RS (sF C 1 1 0) (sF (sF M 200 0 0) 200 2 0) 0 := by
  refine ⟨rfl, rfl, H.txt (by decide) rfl rfl (fun j hj => absurd hj (by omega)) (fun i q q1 q2 => by rw [rF, if_neg q2]) (fun _ _ => rfl) (fun _ _ => rfl) rfl (fun i q q1 q2 => by rw [rF, if_neg (by omega), rF, if_neg (by omega)]) (fun _ _ => rfl)⟩
