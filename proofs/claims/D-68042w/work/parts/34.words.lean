-- words: the value of a constant text, and of a name
def spN (a : Nat) : Nat := wN (fun i => (sB a).getD i 0) (sB a).length 0 0
def spc (a : Nat) : Int64 := lN (spN a)
theorem sp_e : ∀ a, a < 23 → f_P_spelled FU (300 + a) = some (spc (300 + a)) := by decide +kernel
theorem wN_last (T : Nat → Int32) : ∀ (f q w : Nat), wN T (f + 1) q w = 32 * wN T f q w + (chN (T (q + f)) - 96)
  | 0, _, _ => rfl
  | f + 1, q, w => by
    have h := wN_last T f (q + 1) (32 * w + (chN (T q) - 96))
    show wN T (f + 1) (q + 1) (32 * w + (chN (T q) - 96)) = _
    rw [h, show q + 1 + f = q + (f + 1) by omega]
    rfl
theorem wN_inj {T U : Nat → Int32} {q p : Nat} : ∀ (f g : Nat), (∀ i, i < f → 97 ≤ chN (T (q + i)) ∧ chN (T (q + i)) ≤ 122) → (∀ i, i < g → 97 ≤ chN (U (p + i)) ∧ chN (U (p + i)) ≤ 122) → wN T f q 0 = wN U g p 0 → f = g ∧ ∀ i, i < f → chN (T (q + i)) = chN (U (p + i))
  | 0, 0, _, _, _ => ⟨rfl, fun i h => absurd h (by omega)⟩
  | 0, g + 1, _, hU, h => by
    rw [wN_last] at h
    have := hU g (by omega)
    have e : wN T 0 q 0 = 0 := rfl
    omega
  | f + 1, 0, hT, _, h => by
    rw [wN_last] at h
    have := hT f (by omega)
    have e : wN U 0 p 0 = 0 := rfl
    omega
  | f + 1, g + 1, hT, hU, h => by
    rw [wN_last, wN_last] at h
    have h1 := hT f (by omega)
    have h2 := hU g (by omega)
    have hA : wN T f q 0 = wN U g p 0 := by omega
    have hd : chN (T (q + f)) = chN (U (p + g)) := by omega
    obtain ⟨e, hi⟩ := wN_inj f g (fun i h => hT i (by omega)) (fun i h => hU i (by omega)) hA
    subst e
    refine ⟨rfl, fun i hi' => ?_⟩
    by_cases ei : i = f
    · rw [ei]; exact hd
    · exact hi i (by omega)
theorem wN_lt {T : Nat → Int32} {q : Nat} : ∀ (f : Nat), (∀ i, i < f → chN (T (q + i)) ≤ 122) → wN T f q 0 < 32 ^ f
  | 0, _ => Nat.lt_succ_self 0
  | f + 1, h => by
    have h1 := wN_lt f (fun i hi => h i (by omega))
    have h2 := h f (by omega)
    rw [wN_last, Nat.pow_succ]
    omega
theorem sp_word : ∀ a, a < 58 → ¬ (23 ≤ a ∧ a < 35) → ∀ i, i < (sB (300 + a)).length → 97 ≤ chN ((sB (300 + a)).getD i 0) ∧ chN ((sB (300 + a)).getD i 0) ≤ 122 ∧ (sB (300 + a)).getD i 0 = nI (chN ((sB (300 + a)).getD i 0)) := by decide +kernel
theorem sp_len : ∀ a, a < 58 → ¬ (23 ≤ a ∧ a < 35) → (sB (300 + a)).length ≤ 5 := by decide +kernel
theorem allL_at {T : Nat → Int32} : ∀ (f q : Nat), allL T f q = true → ∀ i, i < f → 97 ≤ T (q + i)
  | 0, _, _, i, h => absurd h (by omega)
  | f + 1, q, h, i, hi => by
    have h' : (decide (97 ≤ T q) && allL T f (q + 1)) = true := h
    rw [Bool.and_eq_true, decide_eq_true_eq] at h'
    by_cases e : i = 0
    · rw [e]; exact h'.1
    · have := allL_at f (q + 1) h'.2 (i - 1) (by omega)
      rw [show q + 1 + (i - 1) = q + i by omega] at this
      exact this
theorem word_core {T : Nat → Int32} {bs : List Int32} {j r : Nat} (hj : j ≤ r) (h12 : r - j ≤ 12) (hrun : ∀ q, j ≤ q → q < r → ofB (T q) = true) (hL : allL T (r - j) j = true) (hB : ∀ i, i < bs.length → 97 ≤ chN (bs.getD i 0) ∧ chN (bs.getD i 0) ≤ 122 ∧ bs.getD i 0 = nI (chN (bs.getD i 0))) (h5 : bs.length ≤ 5) :
    (lN (wN T (r - j) j 0) = lN (wN (fun i => bs.getD i 0) bs.length 0 0)) ↔ (r - j = bs.length ∧ ∀ i, i < r - j → T (j + i) = bs.getD i 0) := by
  have hT : ∀ i, i < r - j → 97 ≤ chN (T (j + i)) ∧ chN (T (j + i)) ≤ 122 := fun i hi =>
    ⟨(ch_ge (hrun (j + i) (by omega) (by omega))).mp (allL_at _ _ hL i hi), (ch_of (hrun (j + i) (by omega) (by omega))).2.2⟩
  have hU : ∀ i, i < bs.length → 97 ≤ chN ((fun k => bs.getD k 0) (0 + i)) ∧ chN ((fun k => bs.getD k 0) (0 + i)) ≤ 122 := fun i hi => by
    rw [Nat.zero_add]
    exact ⟨(hB i hi).1, (hB i hi).2.1⟩
  have hb1 : wN T (r - j) j 0 < 2 ^ 63 := by
    have := wN_lt (T := T) (q := j) (r - j) (fun i hi => (hT i hi).2)
    have h2 : 32 ^ (r - j) ≤ 32 ^ 12 := Nat.pow_le_pow_right (by decide) h12
    have h3 : 32 ^ 12 < 2 ^ 63 := by decide
    omega
  have hb2 : wN (fun i => bs.getD i 0) bs.length 0 0 < 2 ^ 63 := by
    have := wN_lt (T := fun i => bs.getD i 0) (q := 0) bs.length (fun i hi => (hU i hi).2)
    have h2 : 32 ^ bs.length ≤ 32 ^ 5 := Nat.pow_le_pow_right (by decide) h5
    have h3 : 32 ^ 5 < 2 ^ 63 := by decide
    omega
  rw [pk_lEQ hb1 hb2]
  constructor
  · intro h
    obtain ⟨e, hi⟩ := wN_inj _ _ hT hU h
    refine ⟨e, fun i hi' => ?_⟩
    have h1 := hi i hi'
    rw [Nat.zero_add] at h1
    rw [(ch_of (hrun (j + i) (by omega) (by omega))).1, (hB i (by omega)).2.2, h1]
  · rintro ⟨e, hi⟩
    have : ∀ (f q : Nat) (w : Nat), (∀ i, i < f → T (j + (q + i)) = bs.getD (q + i) 0) → wN T f (j + q) w = wN (fun i => bs.getD i 0) f q w := by
      intro f
      induction f with
      | zero => intro q w _; rfl
      | succ f ih =>
        intro q w h
        have h0 := h 0 (by omega)
        rw [Nat.add_zero] at h0
        show wN T f (j + q + 1) (32 * w + (chN (T (j + q)) - 96)) = wN _ f (q + 1) (32 * w + (chN (bs.getD q 0) - 96))
        rw [h0, Nat.add_assoc]
        exact ih (q + 1) _ (fun i hi => by
          have := h (i + 1) (by omega)
          rw [show q + (i + 1) = q + 1 + i by omega] at this
          exact this)
    have h2 := this (r - j) 0 0 (fun i hi' => by rw [Nat.zero_add]; exact hi i hi')
    rw [Nat.add_zero] at h2
    rw [h2, e]
/-- a name of letters is a word just if the values are the same -/
theorem word_iff {T : Nat → Int32} {j r a : Nat} (hj : j ≤ r) (h12 : r - j ≤ 12) (hrun : ∀ q, j ≤ q → q < r → ofB (T q) = true) (hL : allL T (r - j) j = true) (ha : a < 58) (hw : ¬ (23 ≤ a ∧ a < 35)) :
    (lN (wN T (r - j) j 0) = spc (300 + a)) ↔ (r - j = (sB (300 + a)).length ∧ ∀ i, i < r - j → T (j + i) = (sB (300 + a)).getD i 0) := by
  have hB := sp_word a ha hw
  have h5 := sp_len a ha hw
  unfold spc spN
  generalize sB (300 + a) = bs at hB h5 ⊢
  exact word_core hj h12 hrun hL hB h5
-- the component's tables
def kwT (w : Int64) : Int32 := if w = spc 303 then 0 else if w = spc 304 then 1 else if w = spc 305 then 2 else if w = spc 306 then 3 else -1
def kwS (w : Int64) : Int32 := if w = spc 307 then 3 else if w = spc 308 then 4 else if w = spc 309 then 5 else if w = spc 310 then 6 else if w = spc 311 then 7 else if w = spc 312 then 8 else if w = spc 313 then 9 else if w = spc 314 then 10 else if w = spc 315 then 11 else if w = spc 316 then 12 else if w = spc 317 then 13 else if w = spc 318 then 14 else if w = spc 319 then 15 else if w = spc 305 then 16 else if w = spc 306 then 17 else -1
def kwC (w : Int64) : Int32 := if w = spc 320 then 18 else if w = spc 321 then 19 else if w = spc 314 then 20 else if w = spc 315 then 21 else if w = spc 316 then 22 else if w = spc 322 then 23 else -1
def kwF (w : Int64) : Int32 := if w = spc 300 then 0 else if w = spc 301 then 0 else if w = spc 302 then 0 else if 0 ≤ kwT w then 0 else if 0 ≤ kwS w then 0 else if 0 ≤ kwC w then 0 else 1
theorem typeOf_e (w : Int64) : f_P_typeOf FU w = some (kwT w) := by
  unfold f_P_typeOf kwT
  rw [show f_P_spelled FU 303 = some (spc 303) from sp_e 3 (by decide), show f_P_spelled FU 304 = some (spc 304) from sp_e 4 (by decide), show f_P_spelled FU 305 = some (spc 305) from sp_e 5 (by decide), show f_P_spelled FU 306 = some (spc 306) from sp_e 6 (by decide)]
  simp only [ob_s, lg_cmp_eq]
  repeat' split
  all_goals rfl
def wid (j : Nat) : Nat := match j with | 3 => 307 | 4 => 308 | 5 => 309 | 6 => 310 | 7 => 311 | 8 => 312 | 9 => 313 | 10 => 314 | 11 => 315 | 12 => 316 | 13 => 317 | 14 => 318 | 15 => 319 | 16 => 305 | 17 => 306 | 18 => 320 | 19 => 321 | 20 => 314 | 21 => 315 | 22 => 316 | _ => 322
theorem wordOf_e : ∀ j, j < 24 → 3 ≤ j → f_P_wordOf (nI j) = some (wid j) := by decide +kernel
theorem wid_sp : ∀ j, j < 24 → 3 ≤ j → f_P_spelled FU (wid j) = some (spc (wid j)) := by decide +kernel
def kfold (w : Int64) : Nat → Nat → Int32 → Int32
  | 0, _, acc => acc
  | f + 1, j, acc => kfold w f (j + 1) (if spc (wid j) = w then nI j else acc)
theorem kind_loop (w : Int64) (x2 : Int32) (hi : Nat) (hx : (x2 = 0 ∧ hi = 24) ∨ (x2 = 1 ∧ hi = 18)) : ∀ (k j : Nat) (acc : Int32), 3 ≤ j → j ≤ hi → hi - j < k → f_P_kindOf_b14 FU k w x2 acc (nI j) = some (kfold w (hi - j) j acc)
  | 0, j, acc, _, _, h => absurd h (by omega)
  | k + 1, j, acc, h3, hj, hk => by
    show f_P_kindOf_b14B FU (f_P_kindOf_b14 FU k) w x2 acc (nI j) = _
    have key : f_P_kindOf_b27 FU (f_P_kindOf_b14 FU k) w x2 acc (nI j) (nI hi) (nI j) = some (kfold w (hi - j) j acc) := by
      unfold f_P_kindOf_b27
      by_cases e : j = hi
      · rw [if_pos (by rw [e]; exact Int32.le_refl _), e, Nat.sub_self]
        rfl
      · have hlt : j < hi := by omega
        have h24 : hi ≤ 24 := by omega
        rw [if_neg (nI_ge hlt (by omega)), wordOf_e j (by omega) h3, ob_s, wid_sp j (by omega) h3, ob_s]
        simp only [lg_cmp_eq]
        unfold f_P_kindOf_b49
        simp only [lt_e, nI_1]
        rw [show hi - j = (hi - (j + 1)) + 1 by omega]
        show _ = some (kfold w (hi - (j + 1)) (j + 1) (if spc (wid j) = w then nI j else acc))
        by_cases hw : spc (wid j) = w
        · rw [if_pos hw, if_pos hw]
          exact kind_loop w x2 hi hx k (j + 1) _ (by omega) (by omega) (by omega)
        · rw [if_neg hw, if_neg hw]
          exact kind_loop w x2 hi hx k (j + 1) _ (by omega) (by omega) (by omega)
    unfold f_P_kindOf_b14B
    rcases hx with ⟨rfl, rfl⟩ | ⟨rfl, rfl⟩
    · rw [if_pos rfl]; exact key
    · rw [if_neg (by decide)]; exact key
theorem kwS_fold (w : Int64) : kfold w 15 3 (-1) = kwS w := by
  by_cases h1 : w = spc 307
  · subst h1; decide +kernel
  by_cases h2 : w = spc 308
  · subst h2; decide +kernel
  by_cases h3 : w = spc 309
  · subst h3; decide +kernel
  by_cases h4 : w = spc 310
  · subst h4; decide +kernel
  by_cases h5 : w = spc 311
  · subst h5; decide +kernel
  by_cases h6 : w = spc 312
  · subst h6; decide +kernel
  by_cases h7 : w = spc 313
  · subst h7; decide +kernel
  by_cases h8 : w = spc 314
  · subst h8; decide +kernel
  by_cases h9 : w = spc 315
  · subst h9; decide +kernel
  by_cases h10 : w = spc 316
  · subst h10; decide +kernel
  by_cases h11 : w = spc 317
  · subst h11; decide +kernel
  by_cases h12 : w = spc 318
  · subst h12; decide +kernel
  by_cases h13 : w = spc 319
  · subst h13; decide +kernel
  by_cases h14 : w = spc 305
  · subst h14; decide +kernel
  by_cases h15 : w = spc 306
  · subst h15; decide +kernel
  have e : ∀ a, w ≠ a → (a = w) = False := fun a h => by rw [eq_iff_iff]; exact ⟨fun q => h q.symm, False.elim⟩
  simp only [kfold, kwS, wid, h1, h2, h3, h4, h5, h6, h7, h8, h9, h10, h11, h12, h13, h14, h15, if_false, e _ h1, e _ h2, e _ h3, e _ h4, e _ h5, e _ h6, e _ h7, e _ h8, e _ h9, e _ h10, e _ h11, e _ h12, e _ h13, e _ h14, e _ h15]
theorem kwC_fold (w : Int64) : kfold w 6 18 (-1) = kwC w := by
  by_cases h1 : w = spc 320
  · subst h1; decide +kernel
  by_cases h2 : w = spc 321
  · subst h2; decide +kernel
  by_cases h3 : w = spc 314
  · subst h3; decide +kernel
  by_cases h4 : w = spc 315
  · subst h4; decide +kernel
  by_cases h5 : w = spc 316
  · subst h5; decide +kernel
  by_cases h6 : w = spc 322
  · subst h6; decide +kernel
  have e : ∀ a, w ≠ a → (a = w) = False := fun a h => by rw [eq_iff_iff]; exact ⟨fun q => h q.symm, False.elim⟩
  simp only [kfold, kwC, wid, h1, h2, h3, h4, h5, h6, if_false, e _ h1, e _ h2, e _ h3, e _ h4, e _ h5, e _ h6]
theorem kindOf1_e (w : Int64) : f_P_kindOf FU w 1 = some (kwS w) := by
  unfold f_P_kindOf
  rw [lt_e, if_neg (by decide)]
  unfold f_P_kindOf_b12
  rw [lt_e, ← kwS_fold]
  exact kind_loop w 1 18 (Or.inr ⟨rfl, rfl⟩) FU 3 (-1) (by decide) (by decide) (by decide)
theorem kindOf0_e (w : Int64) : f_P_kindOf FU w 0 = some (kwC w) := by
  unfold f_P_kindOf
  rw [lt_e, if_pos rfl]
  unfold f_P_kindOf_b12
  rw [lt_e, ← kwC_fold]
  exact kind_loop w 0 24 (Or.inl ⟨rfl, rfl⟩) FU 18 (-1) (by decide) (by decide) (by decide)
theorem isFree_e (w : Int64) : f_P_isFree FU w = some (kwF w) := by
  unfold f_P_isFree kwF f_P_isFree_b37 f_P_isFree_b42
  rw [show f_P_spelled FU 301 = some (spc 301) from sp_e 1 (by decide), show f_P_spelled FU 300 = some (spc 300) from sp_e 0 (by decide), show f_P_spelled FU 302 = some (spc 302) from sp_e 2 (by decide), typeOf_e, kindOf1_e, kindOf0_e]
  simp only [ob_s, lg_cmp_eq, lt_e]
  by_cases h1 : w = spc 301
  · subst h1; decide +kernel
  by_cases h0 : w = spc 300
  · subst h0; decide +kernel
  by_cases h2 : w = spc 302
  · subst h2; decide +kernel
  simp only [h1, h0, h2, if_false]
  by_cases ht : kwT w < 0
  · simp only [ht, if_true, show ¬ 0 ≤ kwT w from Int32.not_le.mpr ht, if_false]
    repeat' split
    all_goals first | rfl | contradiction
  · simp only [ht, if_false, show 0 ≤ kwT w from Int32.not_lt.mp ht, if_true]
    rfl
