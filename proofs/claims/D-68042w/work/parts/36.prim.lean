-- one token on both sides; faults
def CV (C : HS) (T : Nat → Int32) (n p : Nat) : Prop := gF C 1 1 = nI n ∧ p ≤ n ∧ n ≤ 4000 ∧ (∀ j, j < n → gF C 2 j = T j) ∧ TokC C T n p
theorem CV.cg {C C' : HS} {T : Nat → Int32} {n p : Nat} (h : CV C T n p) (h1 : ∀ k, gF C' 1 k = gF C 1 k) (h2 : ∀ k, gF C' 2 k = gF C 2 k) (h3 : ∀ k, gL C' 1 k = gL C 1 k) (h4 : ∀ k, gX C' 1 k = gX C 1 k) : CV C' T n p := by
  obtain ⟨a, b, c, d, e1, e2, e3, e4, e5⟩ := h
  exact ⟨(h1 1).trans a, b, c, fun j hj => (h2 j).trans (d j hj), (h1 4).trans e1, (h1 2).trans e2, (h4 3).trans e3, fun q => (h3 5).trans (e4 q), fun q => (h1 6).trans (e5 q)⟩
theorem C_next {C : HS} {T : Nat → Int32} {n p : Nat} (h : CV C T n p) : ∃ C', f_X_next FU C = some C' ∧ CV C' T n (tkE T n p) ∧ FrX C C' := by
  obtain ⟨h1, hp, hn, hT, hk⟩ := h
  obtain ⟨-, he⟩ := tkE_le (T := T) hp
  obtain ⟨C', e, t, f⟩ := X_next (i := tkE T n p) ⟨h1, hk.2.1, he, hn, hT⟩
  exact ⟨C', e, ⟨f.2.1.trans h1, he, hn, fun j hj => ((f.1 2 j (by decide)).1).trans (hT j hj), t⟩, f⟩
def fcd (s : Nat) : Int32 := if s = 5 then 1 else if s = 4 then 3 else 2
theorem fcd_pos (s : Nat) : 0 < fcd s ∧ ¬ fcd s ≤ 0 ∧ ¬ fcd s = 0 := by
  unfold fcd
  repeat' split
  all_goals decide
def cfl (C : HS) (s q : Nat) : HS := sF (sF C 0 7 (fcd s)) 0 8 (nI q)
def mfl (M : HS) (s q : Nat) : HS := sF (sF M 200 3 (fcd s)) 200 4 (nI q)
theorem CV.so {C : HS} {T : Nat → Int32} {n p : Nat} (h : CV C T n p) : gX C 1 3 = some (500 + tkS T n p) ∧ isSo (500 + tkS T n p) := ⟨h.2.2.2.2.2.2.1, isSo_ok (tkS_lt T n p)⟩
theorem C_refuse {C : HS} {T : Nat → Int32} {n p : Nat} (h : CV C T n p) (h0 : gF C 0 7 = 0) : f_P_refuse C = some (cfl C (tkS T n p) (sk T n p)) := by
  obtain ⟨hx, hs⟩ := h.so
  have h4 : gF C 1 4 = nI (sk T n p) := h.2.2.2.2.1
  unfold f_P_refuse f_P_refuse_b43
  rw [if_pos h0, hx, ob_s, gd_pos ⟨hs, by decide⟩, ob_s, gd_pos ⟨hs, by decide⟩]
  unfold cfl fcd
  simp only [lt_e, rF]
  by_cases e5 : tkS T n p = 5
  · rw [if_pos (by omega), if_pos e5]
    simp only [h4]
    rfl
  · rw [if_neg (by omega), if_neg e5]
    by_cases e4 : tkS T n p = 4
    · rw [if_pos (by omega), if_pos e4]
      simp only [h4]
      rfl
    · rw [if_neg (by omega), if_neg e4]
      simp only [h4]
      rfl
theorem C_refuseF {C : HS} (h0 : ¬ gF C 0 7 = 0) : f_P_refuse C = some C := by
  unfold f_P_refuse
  rw [if_neg h0]
theorem C_passF {C : HS} {T : Nat → Int32} {n p x : Nat} (h : CV C T n p) (hx6 : x < 6) (h0 : ¬ gF C 0 7 = 0) : f_P_pass FU (500 + x) C = some C := by
  obtain ⟨hx, hs⟩ := h.so
  unfold f_P_pass
  rw [hx, ob_s, gd_pos ⟨hs, isSo_ok hx6⟩, if_neg h0, C_refuseF h0, ob_s]
  split <;> rfl
theorem C_passN {C : HS} {T : Nat → Int32} {n p x : Nat} (h : CV C T n p) (hx6 : x < 6) (h0 : gF C 0 7 = 0) (hne : tkS T n p ≠ x) : f_P_pass FU (500 + x) C = some (cfl C (tkS T n p) (sk T n p)) := by
  obtain ⟨hx, hs⟩ := h.so
  unfold f_P_pass
  rw [hx, ob_s, gd_pos ⟨hs, isSo_ok hx6⟩, if_neg (by omega), C_refuse h h0, ob_s]
theorem C_passY {C : HS} {T : Nat → Int32} {n p x : Nat} (h : CV C T n p) (h0 : gF C 0 7 = 0) (he : tkS T n p = x) : f_P_pass FU (500 + x) C = f_X_next FU C := by
  obtain ⟨hx, hs⟩ := h.so
  unfold f_P_pass
  rw [hx, ob_s, ← he, gd_pos ⟨hs, hs⟩, if_pos rfl, if_pos h0]
  cases f_X_next FU C <;> rfl
theorem C_isName {C : HS} {T : Nat → Int32} {n p : Nat} (h : CV C T n p) : f_P_isName FU C = some (mwF T n p) := by
  obtain ⟨hx, hs⟩ := h.so
  unfold f_P_isName mwF
  rw [hx, ob_s, gd_pos ⟨hs, by decide⟩]
  by_cases e : tkS T n p = 2
  · rw [if_pos (by omega), if_pos e, isFree_e, ob_s, h.2.2.2.2.2.2.2.1 e]
    rcases kwF_01 (tkW T n p) with q | q <;> rw [q] <;> rfl
  · rw [if_neg (by omega), if_neg e]
theorem C_isWord {C : HS} {T : Nat → Int32} {n p a : Nat} (h : CV C T n p) (ha : a < 23) : f_P_isWord FU (300 + a) C = some (if tkS T n p = 2 ∧ tkW T n p = spc (300 + a) then 1 else 0) := by
  obtain ⟨hx, hs⟩ := h.so
  unfold f_P_isWord
  rw [hx, ob_s, gd_pos ⟨hs, by decide⟩]
  by_cases e : tkS T n p = 2
  · rw [if_pos (by omega), sp_e a ha, ob_s, h.2.2.2.2.2.2.2.1 e]
    simp only [lg_cmp_eq, e, true_and]
    split <;> rfl
  · rw [if_neg (by omega), if_neg (fun q => e q.1)]
-- the model
theorem M_wrong0 {M : HS} {c pl : Int32} (h0 : gF M 200 3 = 0) : f_M_wrong c pl M = some (sF (sF M 200 3 c) 200 4 pl) := by
  unfold f_M_wrong
  rw [if_pos h0]
  rfl
theorem mw33 (M : HS) (c pl : Int32) : gF (sF (sF M 200 3 c) 200 4 pl) 200 3 = c := rfl
theorem tk4 {T : Nat → Int32} {n p : Nat} (h : tkS T n p = 4) : sk T n p = n := by
  unfold tkS at h
  split at h
  · assumption
  · split at h
    · cases h
    · split at h
      · cases h
      · split at h
        · cases h
        · split at h
          · split at h <;> cases h
          · split at h <;> cases h
theorem M_mustY {M : HS} {T : Nat → Int32} {n p : Nat} {x : Int32} (h : MT M T n p) (h0 : gF M 200 3 = 0) (hx : ¬ x = 0) (h4 : tkS T n p ≠ 4) : f_M_must x M = some (1, M) := by
  have hs6 := tkS_lt T n p
  unfold f_M_must f_M_must_b24 f_M_must_b44
  rw [if_pos h0, h.2.2.2.2.2.2.1, if_neg (show ¬ nI (tkS T n p) = (4 : Int32) from nI_ne (b := 4) (by omega) (by decide) h4), if_pos h0, if_neg hx, if_pos h0]
theorem M_mustN {M : HS} {T : Nat → Int32} {n p : Nat} {x : Int32} (h : MT M T n p) (h0 : gF M 200 3 = 0) (hx : x = 0 ∨ tkS T n p = 4) : f_M_must x M = some (0, mfl M (tkS T n p) (sk T n p)) := by
  have hs6 := tkS_lt T n p
  have h5 := h.2.2.2.2.2.2.2.2.2
  unfold f_M_must f_M_must_b24 f_M_must_b44
  rw [if_pos h0, h.2.2.2.2.2.2.1]
  by_cases h4 : tkS T n p = 4
  · rw [h4, if_pos (show nI 4 = (4 : Int32) from rfl), M_wrong0 h0, ob_s, if_neg (by rw [mw33]; decide), if_neg (by rw [mw33]; decide), h.1]
    unfold mfl fcd
    rw [if_neg (by decide), if_pos rfl, tk4 h4]
  · rw [if_neg (show ¬ nI (tkS T n p) = (4 : Int32) from nI_ne (b := 4) (by omega) (by decide) h4), if_pos h0, if_pos (hx.resolve_right h4), M_wrong0 h0, ob_s, if_neg (by rw [mw33]; decide), h.2.2.2.2.2.1]
    unfold mfl fcd
    rw [if_neg h5, if_neg h4]
theorem M_mustF {M : HS} {x : Int32} (h0 : ¬ gF M 200 3 = 0) : f_M_must x M = some (0, M) := by
  unfold f_M_must f_M_must_b24 f_M_must_b44
  rw [if_neg h0, if_neg h0, if_neg h0]
theorem M_tok {M : HS} {T : Nat → Int32} {n p : Nat} (h : LexM M T n p) (h0 : gF M 200 3 = 0) : ∃ M', f_M_next FU M = some M' ∧ FrM M M' ∧ LexM M' T n (tkE T n p) ∧ ((tkS T n p = 5 ∧ gF M' 200 3 = fcd 5 ∧ gF M' 200 4 = nI (sk T n p)) ∨ (tkS T n p ≠ 5 ∧ MT M' T n p ∧ gF M' 200 3 = 0 ∧ gF M' 200 4 = gF M 200 4)) := by
  obtain ⟨M', e, t, f⟩ := M_next h
  obtain ⟨h2, h5, hp, hn, hT⟩ := h
  obtain ⟨t5, t7, ta, tb⟩ := t
  obtain ⟨-, he⟩ := tkE_le (T := T) hp
  have z2 : gF M' 200 2 = nI n := (f.2.1 2 (by decide) (by decide) (by decide) (by decide) (by decide) (by decide)).trans h2
  have zT : ∀ j, j < n → gF M' 201 j = T j := fun j hj => ((f.1 201 j (by decide)).1).trans (hT j hj)
  refine ⟨M', e, f, ⟨z2, t5, he, hn, zT⟩, ?_⟩
  by_cases e5 : tkS T n p = 5
  · obtain ⟨b3, b4⟩ := tb e5
    rw [if_pos h0] at b3 b4
    exact Or.inl ⟨e5, b3, b4⟩
  · obtain ⟨a6, a3, a4, a8, a9⟩ := ta e5
    exact Or.inr ⟨e5, ⟨z2, hp, hn, zT, t5, t7, a6, a8, a9, e5⟩, a3.trans h0, a4⟩
theorem M_tokF {M : HS} {T : Nat → Int32} {n p : Nat} (h : LexM M T n p) (h0 : ¬ gF M 200 3 = 0) : ∃ M', f_M_next FU M = some M' ∧ FrM M M' ∧ gF M' 200 3 = gF M 200 3 ∧ gF M' 200 4 = gF M 200 4 := by
  obtain ⟨M', e, t, f⟩ := M_next h
  obtain ⟨t5, t7, ta, tb⟩ := t
  refine ⟨M', e, f, ?_⟩
  by_cases e5 : tkS T n p = 5
  · obtain ⟨b3, b4⟩ := tb e5
    rw [if_neg h0] at b3 b4
    exact ⟨b3, b4⟩
  · obtain ⟨a6, a3, a4, a8, a9⟩ := ta e5
    exact ⟨a3, a4⟩
/-- both have the same fault -/
def FT (C M : HS) : Prop := ∃ s q, gF C 0 7 = fcd s ∧ gF M 200 3 = fcd s ∧ gF C 0 8 = nI q ∧ gF M 200 4 = nI q
theorem FT.mk {C M : HS} {s q : Nat} : FT (cfl C s q) (mfl M s q) := ⟨s, q, rfl, rfl, rfl, rfl⟩
theorem FT.mk5 {C M : HS} {s q : Nat} (h5 : s = 5) (h3 : gF M 200 3 = fcd 5) (h4 : gF M 200 4 = nI q) : FT (cfl C s q) M := ⟨5, q, by rw [h5]; rfl, h3, rfl, h4⟩
theorem FT.c {C M : HS} (h : FT C M) : ¬ gF C 0 7 = 0 ∧ ¬ gF C 0 7 ≤ 0 ∧ 0 < gF C 0 7 := by
  obtain ⟨s, q, a, -, -, -⟩ := h
  obtain ⟨x, y, z⟩ := fcd_pos s
  rw [a]
  exact ⟨z, y, x⟩
theorem FT.m {C M : HS} (h : FT C M) : ¬ gF M 200 3 = 0 ∧ ¬ gF M 200 3 ≤ 0 ∧ 0 < gF M 200 3 := by
  obtain ⟨s, q, -, a, -, -⟩ := h
  obtain ⟨x, y, z⟩ := fcd_pos s
  rw [a]
  exact ⟨z, y, x⟩
