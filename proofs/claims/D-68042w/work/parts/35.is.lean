-- the model's words: a token that was read
def MT (M : HS) (T : Nat → Int32) (n p : Nat) : Prop := gF M 200 2 = nI n ∧ p ≤ n ∧ n ≤ 4000 ∧ (∀ j, j < n → gF M 201 j = T j) ∧ gF M 200 5 = nI (tkE T n p) ∧ gF M 200 7 = nI (sk T n p) ∧ gF M 200 6 = nI (tkS T n p) ∧ (tkS T n p = 2 → gL M 200 8 = tkW T n p) ∧ (tkS T n p = 3 → gF M 200 9 = tkV T n p) ∧ tkS T n p ≠ 5
theorem tk_name {T : Nat → Int32} {n p : Nat} (hp : p ≤ n) (h : tkS T n p = 2) : sk T n p ≤ tkE T n p ∧ tkE T n p ≤ n ∧ tkE T n p - sk T n p ≤ 12 ∧ allL T (tkE T n p - sk T n p) (sk T n p) = true ∧ ∀ q, sk T n p ≤ q → q < tkE T n p → ofB (T q) = true := by
  have hE := tkE_le (T := T) hp
  obtain ⟨s1, s2, -⟩ := sk_le (T := T) (n := n) (n - p) p rfl hp
  have hr := rn_le (T := T) (n := n) (n - sk T n p) (sk T n p) rfl s2
  unfold tkS at h
  split at h
  · cases h
  · rename_i e1
    split at h
    · cases h
    · rename_i e2
      split at h
      · cases h
      · rename_i e3
        have eE : tkE T n p = rn T n (sk T n p) := by unfold tkE; rw [if_neg e1, if_neg e2, if_neg e3]
        split at h
        · cases h
        · split at h
          · split at h
            · rename_i hh
              rw [eE]
              exact ⟨hr.1, hr.2.1, hh.1, hh.2, hr.2.2⟩
            · cases h
          · split at h <;> cases h
def eqB (T : Nat → Int32) (bs : List Int32) (q : Nat) : Nat → Nat → Bool
  | 0, _ => true
  | f + 1, j => decide (T (q + j) = bs.getD j 0) && eqB T bs q f (j + 1)
theorem eqB_s (T : Nat → Int32) (bs : List Int32) (q f j : Nat) : eqB T bs q (f + 1) j = (decide (T (q + j) = bs.getD j 0) && eqB T bs q f (j + 1)) := rfl
theorem eqB_iff (T : Nat → Int32) (bs : List Int32) (q : Nat) : ∀ (f j : Nat), eqB T bs q f j = true ↔ ∀ i, j ≤ i → i < j + f → T (q + i) = bs.getD i 0
  | 0, j => ⟨fun _ i h1 h2 => absurd h1 (by omega), fun _ => rfl⟩
  | f + 1, j => by
    show (decide (T (q + j) = bs.getD j 0) && eqB T bs q f (j + 1)) = true ↔ _
    rw [Bool.and_eq_true, decide_eq_true_eq, eqB_iff T bs q f (j + 1)]
    constructor
    · rintro ⟨h0, h⟩ i h1 h2
      by_cases e : i = j
      · rw [e]; exact h0
      · exact h i (by omega) (by omega)
    · intro h
      exact ⟨h j (by omega) (by omega), fun i h1 h2 => h i (by omega) (by omega)⟩
theorem js_len {a : Nat} (h : isT a) : f_Js_length a = some (nI (sB a).length) := gd_pos h _
theorem js_at {a j : Nat} (h : isT a) (hj : j < (sB a).length) (hl : (sB a).length < 2 ^ 31) : f_Js_charAt a (nI j) = some ((sB a).getD j 0) := by
  unfold f_Js_charAt
  rw [gd_pos h, gd_pos (in_n hj hl), cl_n (by omega)]
theorem is_loop {M : HS} {T : Nat → Int32} {n q b : Nat} (hT : ∀ j, j < n → gF M 201 j = T j) (hn : n ≤ 4000) (hq : gF M 200 7 = nI q) (hb : isT b) (hqn : q + (sB b).length ≤ n) : ∀ (k j : Nat) (s : Int32), (s = 0 ∨ s = 1) → j ≤ (sB b).length → (sB b).length - j < k → f_M_is_b30 FU k b s (nI j) M = some (if s = 1 ∧ eqB T (sB b) q ((sB b).length - j) j = true then 1 else 0)
  | 0, j, s, _, _, h => absurd h (by omega)
  | k + 1, j, s, hs, hj, hk => by
    show f_M_is_b30B FU (f_M_is_b30 FU k) b s (nI j) M = _
    unfold f_M_is_b30B
    rw [js_len hb, ob_s]
    by_cases e : j = (sB b).length
    · rw [if_pos (by rw [e]; exact Int32.le_refl _), gd_pos hs, e, Nat.sub_self]
      rcases hs with rfl | rfl
      · rfl
      · rfl
    · have hlt : j < (sB b).length := by omega
      rw [if_neg (nI_ge hlt (by omega))]
      rcases hs with rfl | rfl
      · rw [if_pos rfl]
        unfold f_M_is_b65 f_M_is_b66
        rw [lt_e, lt_e, nI_1, is_loop hT hn hq hb hqn k (j + 1) 0 (Or.inl rfl) (by omega) (by omega)]
        rw [if_neg (fun h => absurd h.1 (by decide)), if_neg (fun h => absurd h.1 (by decide))]
      · rw [if_neg (by decide)]
        simp only [hq, nI_add]
        rw [gd_pos (in_n (by omega) (by decide)), js_at hb hlt (by omega), ob_s, cl_n (by omega), hT (q + j) (by omega)]
        rw [show (sB b).length - j = ((sB b).length - (j + 1)) + 1 by omega]
        rw [eqB_s]
        by_cases ec : T (q + j) = (sB b).getD j 0
        · rw [if_pos ec]
          unfold f_M_is_b66
          rw [lt_e, lt_e, nI_1, is_loop hT hn hq hb hqn k (j + 1) 1 (Or.inr rfl) (by omega) (by omega)]
          simp only [ec, decide_true, Bool.true_and]
        · rw [if_neg ec]
          unfold f_M_is_b65 f_M_is_b66
          rw [lt_e, lt_e, nI_1, is_loop hT hn hq hb hqn k (j + 1) 0 (Or.inl rfl) (by omega) (by omega)]
          rw [if_neg (fun h => absurd h.1 (by decide)), if_neg (fun h => by have := h.2; rw [decide_eq_false ec] at this; cases this)]
theorem nI_ne {a b : Nat} (ha : a < 2 ^ 31) (hb : b < 2 ^ 31) (h : a ≠ b) : ¬ nI a = nI b := fun q => h ((nI_eq ha hb).mp q)
theorem nI_ne2 {a : Nat} (ha : a < 2 ^ 31) (h : a ≠ 2) : ¬ nI a = (2 : Int32) := nI_ne (b := 2) ha (by decide) h
theorem is_e {M : HS} {T : Nat → Int32} {n p a : Nat} (h : MT M T n p) (ha : a < 58) (hw : ¬ (23 ≤ a ∧ a < 35)) : f_M_is FU (300 + a) M = some (if tkS T n p = 2 ∧ tkW T n p = spc (300 + a) then 1 else 0) := by
  obtain ⟨h2, hp, hn, hT, h5, h7, h6, -, -, -⟩ := h
  have hs6 := tkS_lt T n p
  unfold f_M_is
  by_cases ht : tkS T n p = 2
  · obtain ⟨n1, n2, n3, n4, n5⟩ := tk_name hp ht
    have hi := word_iff n1 n3 n5 n4 ha hw
    have hl5 := sp_len a ha hw
    have hb : isT (300 + a) := ⟨by omega, by omega⟩
    rw [h6, ht, if_pos (show nI 2 = (2 : Int32) from rfl), js_len hb, ob_s, h5, h7, pk_sub n1]
    by_cases hl : tkE T n p - sk T n p = (sB (300 + a)).length
    · rw [if_pos (by rw [hl]), lt_e, lt_e]
      have := is_loop hT hn h7 hb (by omega) FU 0 1 (Or.inr rfl) (Nat.zero_le _) (by show _ < 10000; omega)
      rw [show (0 : Int32) = nI 0 from rfl, this]
      have hiff : (2 = 2 ∧ tkW T n p = spc (300 + a)) ↔ ((1 : Int32) = 1 ∧ eqB T (sB (300 + a)) (sk T n p) ((sB (300 + a)).length - 0) 0 = true) := by
        rw [eqB_iff]
        unfold tkW
        rw [hi]
        constructor
        · rintro ⟨-, -, g⟩
          exact ⟨rfl, fun i _ h2 => g i (by omega)⟩
        · rintro ⟨-, g⟩
          exact ⟨rfl, hl, fun i h2 => g i (by omega) (by omega)⟩
      by_cases hc : ((1 : Int32) = 1 ∧ eqB T (sB (300 + a)) (sk T n p) ((sB (300 + a)).length - 0) 0 = true)
      · rw [if_pos hc, if_pos (hiff.mpr hc)]
      · rw [if_neg hc, if_neg (fun q => hc (hiff.mp q))]; rfl
    · rw [if_neg (nI_ne (by omega) (by omega) hl), if_neg (fun q => hl (hi.mp q.2).1)]
  · rw [h6, if_neg (nI_ne2 (by omega) ht), if_neg (fun q => ht q.1)]
theorem spM : ∀ a, a < 20 → spc (337 + a) = spc (303 + a) := by decide +kernel
theorem spM3 : spc 335 = spc 301 ∧ spc 336 = spc 300 ∧ spc 357 = spc 302 := by decide +kernel
theorem is_k {M : HS} {T : Nat → Int32} {n p a : Nat} (h : MT M T n p) (ht : tkS T n p = 2) (ha : a < 20) : f_M_is FU (337 + a) M = some (if tkW T n p = spc (303 + a) then 1 else 0) := by
  have := is_e (a := 37 + a) h (by omega) (by omega)
  rw [show 300 + (37 + a) = 337 + a by omega, spM a ha] at this
  rw [this]
  by_cases e : tkW T n p = spc (303 + a)
  · rw [if_pos ⟨ht, e⟩, if_pos e]
  · rw [if_neg (fun q => e q.2), if_neg e]
theorem is_no {M : HS} {T : Nat → Int32} {n p a : Nat} (h : MT M T n p) (ht : tkS T n p ≠ 2) (x : Nat) : f_M_is FU x M = some 0 := by
  have hs6 := tkS_lt T n p
  unfold f_M_is
  rw [h.2.2.2.2.2.2.1, if_neg (nI_ne2 (by omega) ht)]
theorem ite_10 {c : Prop} [Decidable c] : ((if c then (1 : Int32) else 0) = 0) ↔ ¬ c := by
  by_cases h : c
  · rw [if_pos h]; exact ⟨fun q => absurd q (by decide), fun q => absurd h q⟩
  · rw [if_neg h]; exact ⟨fun _ => h, fun _ => rfl⟩
def mwT (T : Nat → Int32) (n p : Nat) : Int32 := if tkS T n p = 2 then kwT (tkW T n p) else -1
def mwS (T : Nat → Int32) (n p : Nat) : Int32 := if tkS T n p = 2 then kwS (tkW T n p) else -1
def mwC (T : Nat → Int32) (n p : Nat) : Int32 := if tkS T n p = 2 then kwC (tkW T n p) else -1
def mwF (T : Nat → Int32) (n p : Nat) : Int32 := if tkS T n p = 2 then kwF (tkW T n p) else 0
theorem M_type {M : HS} {T : Nat → Int32} {n p : Nat} (h : MT M T n p) : f_M_type FU M = some (mwT T n p) := by
  unfold f_M_type mwT
  by_cases ht : tkS T n p = 2
  · rw [if_pos ht]
    rw [show (337 : Nat) = 337 + 0 from rfl, show (338 : Nat) = 337 + 1 from rfl, show (339 : Nat) = 337 + 2 from rfl, show (340 : Nat) = 337 + 3 from rfl, is_k h ht (by decide), is_k h ht (by decide), is_k h ht (by decide), is_k h ht (by decide)]
    simp only [ob_s, ite_10]
    unfold kwT
    simp only [Nat.add_zero, Nat.reduceAdd]
    repeat' split
    all_goals first | rfl | contradiction
  · rw [if_neg ht]
    simp only [is_no (a := 0) h ht, ob_s]
    rfl
theorem M_oper {M : HS} {T : Nat → Int32} {n p : Nat} (h : MT M T n p) (ht : tkS T n p = 2) : f_M_operation FU M = some (if tkW T n p = spc 307 then 3 else if tkW T n p = spc 308 then 4 else if tkW T n p = spc 309 then 5 else if tkW T n p = spc 310 then 6 else if tkW T n p = spc 311 then 7 else if tkW T n p = spc 312 then 8 else if tkW T n p = spc 313 then 9 else -1) := by
  unfold f_M_operation
  rw [show (341 : Nat) = 337 + 4 from rfl, show (342 : Nat) = 337 + 5 from rfl, show (343 : Nat) = 337 + 6 from rfl, show (344 : Nat) = 337 + 7 from rfl, show (345 : Nat) = 337 + 8 from rfl, show (346 : Nat) = 337 + 9 from rfl, show (347 : Nat) = 337 + 10 from rfl, is_k h ht (by decide), is_k h ht (by decide), is_k h ht (by decide), is_k h ht (by decide), is_k h ht (by decide), is_k h ht (by decide), is_k h ht (by decide)]
  simp only [ob_s, ite_10, Nat.reduceAdd]
  repeat' split
  all_goals first | rfl | contradiction
theorem M_stable {M : HS} {T : Nat → Int32} {n p : Nat} (h : MT M T n p) : f_M_stableKind FU M = some (mwS T n p) := by
  unfold f_M_stableKind mwS
  by_cases ht : tkS T n p = 2
  · rw [if_pos ht, M_oper h ht]
    rw [show (348 : Nat) = 337 + 11 from rfl, show (349 : Nat) = 337 + 12 from rfl, show (350 : Nat) = 337 + 13 from rfl, show (351 : Nat) = 337 + 14 from rfl, show (352 : Nat) = 337 + 15 from rfl, show (353 : Nat) = 337 + 16 from rfl, show (339 : Nat) = 337 + 2 from rfl, show (340 : Nat) = 337 + 3 from rfl, is_k h ht (by decide), is_k h ht (by decide), is_k h ht (by decide), is_k h ht (by decide), is_k h ht (by decide), is_k h ht (by decide), is_k h ht (by decide), is_k h ht (by decide)]
    simp only [ob_s, ite_10, Nat.reduceAdd]
    unfold kwS
    by_cases h1 : tkW T n p = spc 307
    · simp only [h1, if_true]; decide +kernel
    by_cases h2 : tkW T n p = spc 308
    · simp only [h1, h2, if_true, if_false]; decide +kernel
    by_cases h3 : tkW T n p = spc 309
    · simp only [h1, h2, h3, if_true, if_false]; decide +kernel
    by_cases h4 : tkW T n p = spc 310
    · simp only [h1, h2, h3, h4, if_true, if_false]; decide +kernel
    by_cases h5 : tkW T n p = spc 311
    · simp only [h1, h2, h3, h4, h5, if_true, if_false]; decide +kernel
    by_cases h6 : tkW T n p = spc 312
    · simp only [h1, h2, h3, h4, h5, h6, if_true, if_false]; decide +kernel
    by_cases h7 : tkW T n p = spc 313
    · simp only [h1, h2, h3, h4, h5, h6, h7, if_true, if_false]; decide +kernel
    simp only [h1, h2, h3, h4, h5, h6, h7, if_false]
    rw [if_pos (by decide)]
    repeat' split
    all_goals first | rfl | contradiction
  · rw [if_neg ht]
    unfold f_M_operation
    simp only [is_no (a := 0) h ht, ob_s, if_true]
    rw [if_pos (by decide)]
theorem M_change {M : HS} {T : Nat → Int32} {n p : Nat} (h : MT M T n p) : f_M_changeableKind FU M = some (mwC T n p) := by
  unfold f_M_changeableKind mwC
  by_cases ht : tkS T n p = 2
  · rw [if_pos ht]
    rw [show (354 : Nat) = 337 + 17 from rfl, show (355 : Nat) = 337 + 18 from rfl, show (348 : Nat) = 337 + 11 from rfl, show (349 : Nat) = 337 + 12 from rfl, show (350 : Nat) = 337 + 13 from rfl, show (356 : Nat) = 337 + 19 from rfl, is_k h ht (by decide), is_k h ht (by decide), is_k h ht (by decide), is_k h ht (by decide), is_k h ht (by decide), is_k h ht (by decide)]
    simp only [ob_s, ite_10, Nat.reduceAdd]
    unfold kwC
    repeat' split
    all_goals first | rfl | contradiction
  · rw [if_neg ht]
    simp only [is_no (a := 0) h ht, ob_s]
    rfl
theorem M_own {M : HS} {T : Nat → Int32} {n p : Nat} (h : MT M T n p) : f_M_isOwn FU M = some (mwF T n p) := by
  have hs6 := tkS_lt T n p
  unfold f_M_isOwn
  rw [M_type h, M_stable h, M_change h]
  have hf := is_e (a := 35) h (by decide) (by decide)
  have hc := is_e (a := 36) h (by decide) (by decide)
  have hn := is_e (a := 57) h (by decide) (by decide)
  simp only [Nat.reduceAdd] at hf hc hn
  rw [hf, hc, hn, spM3.1, spM3.2.1, spM3.2.2, h.2.2.2.2.2.2.1]
  unfold mwF mwT mwS mwC
  by_cases ht : tkS T n p = 2
  · simp only [ht, if_true, ob_s, ite_10, true_and]
    rw [if_pos (show nI 2 = (2 : Int32) from rfl)]
    unfold kwF
    by_cases a1 : 0 ≤ kwT (tkW T n p)
    · simp only [a1, if_true]
      repeat' split
      all_goals rfl
    by_cases a2 : 0 ≤ kwS (tkW T n p)
    · simp only [a1, a2, if_true, if_false]
      repeat' split
      all_goals rfl
    by_cases a3 : 0 ≤ kwC (tkW T n p)
    · simp only [a1, a2, a3, if_true, if_false]
      repeat' split
      all_goals rfl
    simp only [a1, a2, a3, if_false]
    by_cases b1 : tkW T n p = spc 301
    · simp only [b1, not_true, if_true, if_false]
      repeat' split
      all_goals rfl
    by_cases b0 : tkW T n p = spc 300
    · simp only [b1, b0, not_true, not_false_eq_true, if_true, if_false]
      repeat' split
      all_goals rfl
    by_cases b2 : tkW T n p = spc 302
    · simp only [b1, b0, b2, not_true, not_false_eq_true, if_true, if_false]
      repeat' split
      all_goals rfl
    simp only [b1, b0, b2, not_false_eq_true, if_true, if_false]
  · rw [if_neg (nI_ne2 (by omega) ht), if_neg ht]
theorem kwF_01 (w : Int64) : kwF w = 0 ∨ kwF w = 1 := by
  unfold kwF
  repeat' split
  all_goals first | exact Or.inl rfl | exact Or.inr rfl
theorem mwF_01 (T : Nat → Int32) (n p : Nat) : mwF T n p = 0 ∨ mwF T n p = 1 := by
  unfold mwF
  split
  · exact kwF_01 _
  · exact Or.inl rfl
