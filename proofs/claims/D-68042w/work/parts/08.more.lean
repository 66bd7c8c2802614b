-- small rows that the printed walks use
theorem q_P : cls[0]? = some (R_P, F_P, 9) := rfl
theorem q_X : cls[1]? = some (R_X, F_X, 7) := rfl
theorem q_D : cls[2]? = some (R_D, F_D, 8) := rfl
theorem q_N : cls[3]? = some (R_N, F_N, 11) := rfl
theorem q_O : cls[4]? = some (R_O, F_O, 4) := rfl
theorem q_M : cls[5]? = some (R_M, F_M, 33) := rfl
def ob2 {α β γ : Type} (x : Option (α × β)) (k : α → β → Option γ) : Option γ := match x with | some (a, b) => k a b | none => none
theorem ob2_some {α β γ : Type} {x : Option (α × β)} {k : α → β → Option γ} {y : γ} (h : ob2 x k = some y) : ∃ a b, x = some (a, b) ∧ k a b = some y := by
  cases x with
  | none => cases h
  | some q => obtain ⟨a, b⟩ := q; exact ⟨a, b, rfl, h⟩
/-- a loop, k times at most -/
def lpF {α : Type} (x0 : α) (g : α → α) : Nat → α
  | 0 => x0
  | k + 1 => g (lpF x0 g k)
theorem fin_n0 {i : Nat} {c : Nat} (h : kd i = c) (hc : c = 2 ∨ c = 3 ∨ c = 4) : i ≠ 0 ∧ i ≠ 1 ∧ i ≠ 4 ∧ i ≠ 200 := by
  refine ⟨?_, ?_, ?_, ?_⟩ <;> (intro e; rw [e] at h; have h2 := h.symm; revert h2; rcases hc with rfl | rfl | rfl <;> decide)
theorem finD6 {i : Nat} (h : kd i = 2) : finR i 6 = some (i + 1) := by
  obtain ⟨h0, h1, h4, -⟩ := fin_n0 h (Or.inl rfl)
  unfold finR
  rw [if_neg h0, if_neg h1, if_neg h4, if_pos h]
  rfl
theorem finD7 {i : Nat} (h : kd i = 2) : finR i 7 = some (i + 2) := by
  obtain ⟨h0, h1, h4, -⟩ := fin_n0 h (Or.inl rfl)
  unfold finR
  rw [if_neg h0, if_neg h1, if_neg h4, if_pos h]
  rfl
theorem finO1 {i : Nat} (h : kd i = 4) : finR i 1 = none := by
  obtain ⟨h0, h1, h4, h2⟩ := fin_n0 h (Or.inr (Or.inr rfl))
  unfold finR
  rw [if_neg h0, if_neg h1, if_neg h4, if_neg (by rw [h]; decide), if_neg h2]
theorem finA {k : Nat} (h : k < 64) : finR 4 k = some (6 + 3 * k) := by
  unfold finR
  rw [if_neg (by decide), if_neg (by decide), if_pos rfl, if_pos h]
