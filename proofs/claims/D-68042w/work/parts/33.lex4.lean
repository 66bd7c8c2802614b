-- the next token, in both
def numB (T : Nat → Int32) (j r : Nat) : Bool := decide (nFrom T j < r) && (allD T (r - nFrom T j) (nFrom T j) && decide (numV T j r ≤ (if T j = 45 then 2147483648 else 2147483647)))
theorem numB_iff (T : Nat → Int32) (j r : Nat) : numB T j r = true ↔ numOK T j r := by
  unfold numB numOK
  simp only [Bool.and_eq_true, decide_eq_true_eq]
/-- the sort of the token at i: 0 (, 1 ), 2 a name, 3 a number, 4 the end, 5 wrong -/
def tkS (T : Nat → Int32) (n i : Nat) : Nat :=
  if sk T n i = n then 4 else if T (sk T n i) = 40 then 0 else if T (sk T n i) = 41 then 1 else
  if rn T n (sk T n i) = sk T n i then 5 else
  if 97 ≤ T (sk T n i) then (if rn T n (sk T n i) - sk T n i ≤ 12 ∧ allL T (rn T n (sk T n i) - sk T n i) (sk T n i) = true then 2 else 5)
  else (if numB T (sk T n i) (rn T n (sk T n i)) = true then 3 else 5)
def tkE (T : Nat → Int32) (n i : Nat) : Nat := if sk T n i = n then n else if T (sk T n i) = 40 then sk T n i + 1 else if T (sk T n i) = 41 then sk T n i + 1 else rn T n (sk T n i)
def tkW (T : Nat → Int32) (n i : Nat) : Int64 := lN (wN T (tkE T n i - sk T n i) (sk T n i) 0)
def tkV (T : Nat → Int32) (n i : Nat) : Int32 := nvl T (sk T n i) (tkE T n i)
theorem tkS_lt (T : Nat → Int32) (n i : Nat) : tkS T n i < 6 := by
  unfold tkS
  repeat' split
  all_goals decide
theorem tkE_le {T : Nat → Int32} {n i : Nat} (h : i ≤ n) : sk T n i ≤ tkE T n i ∧ tkE T n i ≤ n := by
  obtain ⟨h1, h2, -⟩ := sk_le (T := T) (n := n) _ i rfl h
  obtain ⟨h3, h4, -⟩ := rn_le (T := T) (n := n) _ (sk T n i) rfl h2
  unfold tkE
  repeat' split
  all_goals omega
theorem tkE_go {T : Nat → Int32} {n i : Nat} (h : i ≤ n) (h5 : tkS T n i < 4) : i < tkE T n i := by
  obtain ⟨h1, h2, -⟩ := sk_le (T := T) (n := n) _ i rfl h
  obtain ⟨h3, h4, -⟩ := rn_le (T := T) (n := n) _ (sk T n i) rfl h2
  unfold tkS at h5
  unfold tkE
  split at h5
  · omega
  · rename_i hn
    rw [if_neg hn]
    split at h5
    · rename_i h40; rw [if_pos h40]; omega
    · rename_i h40
      rw [if_neg h40]
      split at h5
      · rename_i h41; rw [if_pos h41]; omega
      · rename_i h41
        rw [if_neg h41]
        split at h5
        · omega
        · omega
def TokC (C : HS) (T : Nat → Int32) (n i : Nat) : Prop := gF C 1 4 = nI (sk T n i) ∧ gF C 1 2 = nI (tkE T n i) ∧ gX C 1 3 = some (500 + tkS T n i) ∧ (tkS T n i = 2 → gL C 1 5 = tkW T n i) ∧ (tkS T n i = 3 → gF C 1 6 = tkV T n i)
/-- nothing but the lexer's own fields has changed -/
def FrX (C C' : HS) : Prop := (∀ a k, a ≠ 1 → gF C' a k = gF C a k ∧ gL C' a k = gL C a k ∧ gX C' a k = gX C a k) ∧ gF C' 1 1 = gF C 1 1 ∧ (∀ k, k ≠ 3 → gX C' 1 k = gX C 1 k) ∧ C'.2.2.2 = C.2.2.2
theorem FrX.rf {C : HS} : FrX C C := ⟨fun _ _ _ => ⟨rfl, rfl, rfl⟩, rfl, fun _ _ => rfl, rfl⟩
theorem FrX.tr {A B C : HS} (h : FrX A B) (k : FrX B C) : FrX A C :=
  ⟨fun a q ha => ⟨((k.1 a q ha).1).trans (h.1 a q ha).1, ((k.1 a q ha).2.1).trans (h.1 a q ha).2.1, ((k.1 a q ha).2.2).trans (h.1 a q ha).2.2⟩, k.2.1.trans h.2.1, fun q hq => (k.2.2.1 q hq).trans (h.2.2.1 q hq), k.2.2.2.trans h.2.2.2⟩
theorem FrX.sF {C : HS} {k : Nat} {v : Int32} (h : k ≠ 1) : FrX C (sF C 1 k v) := by
  refine ⟨fun a q ha => ⟨?_, rfl, rfl⟩, ?_, fun _ _ => rfl, rfl⟩
  · rw [rF, if_neg (fun z => ha z.1)]
  · rw [rF, if_neg (fun z => h z.2.symm)]
theorem FrX.sL {C : HS} {k : Nat} {v : Int64} : FrX C (sL C 1 k v) := by
  refine ⟨fun a q ha => ⟨rfl, ?_, rfl⟩, rfl, fun _ _ => rfl, rfl⟩
  rw [rL, if_neg (fun z => ha z.1)]
theorem FrX.sX {C : HS} {v : Option Nat} : FrX C (sX C 1 3 v) := by
  refine ⟨fun a q ha => ⟨rfl, rfl, ?_⟩, rfl, fun q hq => ?_, rfl⟩
  · rw [rX, if_neg (fun z => ha z.1)]
  · rw [rX, if_neg (fun z => hq z.2)]
theorem isSo_ok {k : Nat} (h : k < 6) : isSo (500 + k) := ⟨by omega, by omega⟩
theorem X_next {C : HS} {T : Nat → Int32} {n i : Nat} (h : LexC C T n i) : ∃ C', f_X_next FU C = some C' ∧ TokC C' T n i ∧ FrX C C' := by
  obtain ⟨hsz, hat, hi, hn, hT⟩ := id h
  obtain ⟨s1, s2, s3⟩ := sk_le (T := T) (n := n) _ i rfl hi
  unfold f_X_next
  rw [show f_X_next_b0 FU FU C = _ from X_skip FU i C h (by show n - i < 10000; omega)]
  generalize hj : sk T n i = j at s1 s2 s3
  obtain ⟨r1, r2, r3⟩ := rn_le (T := T) (n := n) _ j rfl s2
  have hcj : (nI j).toNatClampNeg = j := cl_n (by omega)
  have fA : FrX C (sF (sF C 1 2 (nI j)) 1 4 (nI j)) := (FrX.sF (by decide)).tr (FrX.sF (by decide))
  unfold f_X_next_b52
  rw [lt_e, show gF (sF C 1 2 (nI j)) 1 2 = nI j from sF_at _ _ _ _]
  generalize hA : sF (sF C 1 2 (nI j)) 1 4 (nI j) = A at fA
  have a2 : gF A 1 2 = nI j := by rw [← hA]; rfl
  have a1 : gF A 1 1 = nI n := by rw [← hA]; exact hsz
  have a4 : gF A 1 4 = nI j := by rw [← hA]; rfl
  have aT : ∀ q, q < n → gF A 2 q = T q := by rw [← hA]; exact hT
  simp only [a2, a1, hcj]
  unfold TokC tkW tkV
  unfold tkS tkE
  rw [hj]
  by_cases e : j = n
  · rw [if_pos (by rw [e]), lt_e]
    refine ⟨_, rfl, ?_, fA.tr FrX.sX⟩
    simp only [if_pos e]
    exact ⟨a4, by rw [rFX, a2, e], sX_at _ _ _ _, fun q => absurd q (by decide), fun q => absurd q (by decide)⟩
  · have hlt : j < n := by omega
    rw [if_neg (fun q => e ((nI_eq (by omega) (by omega)).mp q)), gd_pos (in_n (by omega) (by omega)), lt_e, aT j hlt]
    simp only [if_neg e]
    by_cases h40 : T j = 40
    · rw [if_pos h40]
      unfold f_X_next_b101 f_X_next_b117
      rw [if_pos h40, gd_pos (by decide), lt_e, lt_e]
      refine ⟨_, rfl, ?_, fA.tr (FrX.sX.tr (FrX.sF (by decide)))⟩
      simp only [if_pos h40]
      exact ⟨a4, by rw [sF_at, rFX, a2, nI_1], by rw [rXF, sX_at], fun q => absurd q (by decide), fun q => absurd q (by decide)⟩
    · rw [if_neg h40]
      simp only [if_neg h40]
      by_cases h41 : T j = 41
      · rw [if_pos h41]
        unfold f_X_next_b101 f_X_next_b117
        rw [if_neg h40, gd_pos (by decide), lt_e, lt_e]
        refine ⟨_, rfl, ?_, fA.tr (FrX.sX.tr (FrX.sF (by decide)))⟩
        simp only [if_pos h41]
        exact ⟨a4, by rw [sF_at, rFX, a2, nI_1], by rw [rXF, sX_at], fun q => absurd q (by decide), fun q => absurd q (by decide)⟩
      · rw [if_neg h41]
        simp only [if_neg h41]
        rw [show f_X_next_b131 FU FU (T j) A = _ from X_run (T j) FU j A ⟨a1, a2, s2, hn, aT⟩ (by show n - j < 10000; omega)]
        generalize hr : rn T n j = r at r1 r2 r3
        have fB : FrX C (sF A 1 2 (nI r)) := fA.tr (FrX.sF (by decide))
        generalize hB : sF A 1 2 (nI r) = B at fB
        have b2 : gF B 1 2 = nI r := by rw [← hB]; rfl
        have b4 : gF B 1 4 = nI j := by rw [← hB]; exact a4
        have bT : ∀ q, q < n → gF B 2 q = T q := by rw [← hB]; exact aT
        unfold f_X_next_b170
        simp only [b2, b4]
        by_cases er : r = j
        · rw [if_pos (by rw [er])]
          unfold f_X_next_b205
          rw [gd_pos (by decide), lt_e]
          refine ⟨_, rfl, ?_, fB.tr FrX.sX⟩
          simp only [if_pos er]
          exact ⟨b4, by rw [rFX, b2, er], sX_at _ _ _ _, fun q => absurd q (by decide), fun q => absurd q (by decide)⟩
        · rw [if_neg (fun q => er ((nI_eq (by omega) (by omega)).mp q))]
          simp only [if_neg er]
          by_cases h97 : 97 ≤ T j
          · rw [if_neg (Int32.not_lt.mpr h97)]
            simp only [if_pos h97]
            obtain ⟨w, w1, w2⟩ := X_spell r2 hn bT b2 b4 (by omega) r3
            rw [w1, ob2_s]
            unfold f_X_next_b205
            by_cases ok : r - j ≤ 12 ∧ allL T (r - j) j = true
            · simp only [if_pos ok]
              rw [gd_pos (by decide), lt_e]
              refine ⟨_, rfl, ⟨b4, b2, sX_at _ _ _ _, fun _ => ?_, fun q => absurd q (by decide)⟩, fB.tr (FrX.sL.tr FrX.sX)⟩
              rw [rLX, sL_at, w2 ok]
            · simp only [if_neg ok]
              rw [gd_pos (by decide), lt_e]
              exact ⟨_, rfl, ⟨b4, b2, sX_at _ _ _ _, fun q => absurd q (by decide), fun q => absurd q (by decide)⟩, fB.tr (FrX.sL.tr FrX.sX)⟩
          · rw [if_pos (Int32.not_le.mp h97)]
            simp only [if_neg h97]
            obtain ⟨zz, w, w1, w2, w3⟩ := X_count r2 hn bT b2 b4 (by omega)
            rw [w1, ob2_s]
            unfold f_X_next_b205
            by_cases ok : numB T j r = true
            · obtain ⟨rfl, rfl⟩ := w2 ((numB_iff _ _ _).mp ok)
              simp only [if_pos ok]
              rw [gd_pos (by decide), lt_e]
              refine ⟨_, rfl, ⟨b4, b2, sX_at _ _ _ _, fun q => absurd q (by decide), fun _ => ?_⟩, fB.tr ((FrX.sF (by decide)).tr FrX.sX)⟩
              rw [rFX, sF_at]
            · have hz := w3 (fun q => ok ((numB_iff _ _ _).mpr q))
              subst hz
              simp only [if_neg ok]
              rw [gd_pos (by decide), lt_e]
              exact ⟨_, rfl, ⟨b4, b2, sX_at _ _ _ _, fun q => absurd q (by decide), fun q => absurd q (by decide)⟩, fB.tr ((FrX.sF (by decide)).tr FrX.sX)⟩
-- the model
def LexM (M : HS) (T : Nat → Int32) (n i : Nat) : Prop := gF M 200 2 = nI n ∧ gF M 200 5 = nI i ∧ i ≤ n ∧ n ≤ 4000 ∧ ∀ j, j < n → gF M 201 j = T j
def FrM (M M' : HS) : Prop := (∀ a k, a ≠ 200 → gF M' a k = gF M a k ∧ gL M' a k = gL M a k) ∧ (∀ k, k ≠ 3 → k ≠ 4 → k ≠ 5 → k ≠ 6 → k ≠ 7 → k ≠ 9 → gF M' 200 k = gF M 200 k) ∧ (∀ a k, gX M' a k = gX M a k) ∧ M'.2.2.2 = M.2.2.2
theorem FrM.rf {M : HS} : FrM M M := ⟨fun _ _ _ => ⟨rfl, rfl⟩, fun _ _ _ _ _ _ _ => rfl, fun _ _ => rfl, rfl⟩
theorem FrM.tr {A B C : HS} (h : FrM A B) (k : FrM B C) : FrM A C :=
  ⟨fun a q ha => ⟨((k.1 a q ha).1).trans (h.1 a q ha).1, ((k.1 a q ha).2).trans (h.1 a q ha).2⟩, fun q h3 h4 h5 h6 h7 h9 => (k.2.1 q h3 h4 h5 h6 h7 h9).trans (h.2.1 q h3 h4 h5 h6 h7 h9), fun a q => (k.2.2.1 a q).trans (h.2.2.1 a q), k.2.2.2.trans h.2.2.2⟩
theorem FrM.sF {M : HS} {k : Nat} {v : Int32} (h : k = 3 ∨ k = 4 ∨ k = 5 ∨ k = 6 ∨ k = 7 ∨ k = 9) : FrM M (sF M 200 k v) := by
  refine ⟨fun a q ha => ⟨?_, rfl⟩, fun q h3 h4 h5 h6 h7 h9 => ?_, fun _ _ => rfl, rfl⟩
  · rw [rF, if_neg (fun z => ha z.1)]
  · rw [rF, if_neg (fun z => by have := z.2; omega)]
theorem FrM.sL {M : HS} {k : Nat} {v : Int64} : FrM M (sL M 200 k v) := by
  refine ⟨fun a q ha => ⟨rfl, ?_⟩, fun _ _ _ _ _ _ _ => rfl, fun _ _ => rfl, rfl⟩
  rw [rL, if_neg (fun z => ha z.1)]
theorem FrM.wrong {M : HS} {c pl : Int32} : FrM M (mwrong c pl M) := by
  unfold mwrong
  split
  · exact (FrM.sF (by decide)).tr (FrM.sF (by decide))
  · exact FrM.rf
theorem M_skip {T : Nat → Int32} {n : Nat} : ∀ (k i : Nat) (M : HS), LexM M T n i → n - i < k → f_M_next_b0 FU k M = f_M_next_b52 FU (sF M 200 5 (nI (sk T n i)))
  | 0, i, M, _, h => absurd h (by omega)
  | k + 1, i, M, hL, h => by
    obtain ⟨h1, h2, h3, h4, h5⟩ := id hL
    show f_M_next_b0B FU (f_M_next_b0 FU k) M = _
    unfold f_M_next_b0B
    by_cases e : i = n
    · simp only [h1, h2]
      rw [if_pos (by rw [e]; exact Int32.le_refl _), e, sk_end, ← e, sF_id h2]
    · have hlt : i < n := by omega
      have hc : (nI i).toNatClampNeg = i := cl_n (by omega)
      simp only [h1, h2, hc, h5 i hlt]
      rw [if_neg (nI_ge hlt (by omega)), gd_pos (in_n (by omega) (by omega))]
      have step : (T i = 32 ∨ T i = 10) → f_M_next_b39 FU (f_M_next_b0 FU k) M = f_M_next_b52 FU (sF M 200 5 (nI (sk T n i))) := by
        intro hw
        unfold f_M_next_b39
        rw [lt_e, h2, nI_1, M_skip k (i + 1) (sF M 200 5 (nI (i + 1))) ⟨h1, rfl, by omega, h4, h5⟩ (by omega), sF_sF, sk_ws hlt hw]
      by_cases hw : T i = 32
      · rw [if_pos hw]; exact step (Or.inl hw)
      · rw [if_neg hw, gd_pos (in_n (by omega) (by omega))]
        by_cases hv : T i = 10
        · rw [if_pos hv]; exact step (Or.inr hv)
        · rw [if_neg hv, sk_no hlt (by rintro (q | q) <;> contradiction), sF_id h2]
theorem isRun_e {M : HS} {T : Nat → Int32} {n q : Nat} (h : LexM M T n q) : f_M_isRun (nI q) M = some (if q < n ∧ ofB (T q) = true then 1 else 0) := by
  obtain ⟨h1, h2, h3, h4, h5⟩ := id h
  unfold f_M_isRun
  by_cases e : q = n
  · rw [if_pos (by rw [h1, e]; exact Int32.le_refl _), if_neg (fun z => by omega)]
  · have hlt : q < n := by omega
    have hc : (nI q).toNatClampNeg = q := cl_n (by omega)
    simp only [h1, hc, h5 q hlt]
    rw [if_neg (nI_ge hlt (by omega)), gd_pos (in_n (by omega) (by omega)), isDigit_e]
    unfold f_M_isLetter
    by_cases hl : 97 ≤ T q ∧ T q ≤ 122
    · rw [if_neg (Int32.not_lt.mpr hl.1), if_neg (Int32.not_lt.mpr hl.2), ob_s, if_neg (by decide), if_pos ⟨hlt, by unfold ofB; exact decide_eq_true (Or.inl hl)⟩]
    · have e0 : (if T q < 97 then some (0 : Int32) else if 122 < T q then some 0 else some 1) = some 0 := by
        by_cases q1 : T q < 97
        · rw [if_pos q1]
        · rw [if_neg q1, if_pos (Int32.not_le.mp (fun q2 => hl ⟨Int32.not_lt.mp q1, q2⟩))]
      rw [e0, ob_s, if_pos rfl, gd_pos (in_n (by omega) (by omega)), ob_s]
      by_cases hd : 48 ≤ T q ∧ T q ≤ 57
      · rw [if_pos hd, if_neg (by decide), if_pos ⟨hlt, by unfold ofB; exact decide_eq_true (Or.inr (Or.inl hd))⟩]
      · rw [if_neg hd, if_pos rfl, gd_pos (in_n (by omega) (by omega))]
        by_cases h45 : T q = 45
        · rw [if_pos h45, if_pos ⟨hlt, by unfold ofB; exact decide_eq_true (Or.inr (Or.inr h45))⟩]
        · rw [if_neg h45, if_neg (fun z => by
            have := z.2
            unfold ofB at this
            rcases of_decide_eq_true this with g | g | g
            · exact hl g
            · exact hd g
            · exact h45 g)]
def mAfter (S : HS) : Option HS :=
  (if (gF S 200 5) = (gF S 200 7) then
  ob (f_M_wrong (1 : Int32) (gF S 200 7) S) fun S14 =>
  some S14
  else
  gd (inR (gF S 200 7) 8192) <|
  ob (f_M_isLetter (gF S 201 (gF S 200 7).toNatClampNeg)) fun r11 =>
  (if r11 = 0 then
  ob (f_M_readNumber FU S) fun S12 =>
  some S12
  else
  ob (f_M_readName FU S) fun S13 =>
  some S13))
theorem M_run {T : Nat → Int32} {n : Nat} : ∀ (k i : Nat) (M : HS), LexM M T n i → n - i < k → f_M_next_b139 FU k M = mAfter (sF M 200 5 (nI (rn T n i)))
  | 0, i, M, _, h => absurd h (by omega)
  | k + 1, i, M, hL, h => by
    obtain ⟨h1, h2, h3, h4, h5⟩ := id hL
    show f_M_next_b139B FU (f_M_next_b139 FU k) M = _
    unfold f_M_next_b139B
    rw [h2, isRun_e hL, ob_s]
    by_cases hw : i < n ∧ ofB (T i) = true
    · rw [if_pos hw, if_neg (by decide), lt_e, nI_1, M_run k (i + 1) (sF M 200 5 (nI (i + 1))) ⟨h1, rfl, by omega, h4, h5⟩ (by omega), sF_sF, rn_of hw.1 hw.2]
    · rw [if_neg hw, if_pos rfl]
      have er : rn T n i = i := by
        by_cases e : i = n
        · rw [e, rn_end]
        · exact rn_no (by omega) (fun q => hw ⟨by omega, q⟩)
      rw [er, sF_id h2]
      unfold mAfter
      rw [h2]
def TokM (M M' : HS) (T : Nat → Int32) (n i : Nat) : Prop := gF M' 200 5 = nI (tkE T n i) ∧ gF M' 200 7 = nI (sk T n i) ∧
  (tkS T n i ≠ 5 → gF M' 200 6 = nI (tkS T n i) ∧ gF M' 200 3 = gF M 200 3 ∧ gF M' 200 4 = gF M 200 4 ∧ (tkS T n i = 2 → gL M' 200 8 = tkW T n i) ∧ (tkS T n i = 3 → gF M' 200 9 = tkV T n i)) ∧
  (tkS T n i = 5 → gF M' 200 3 = (if gF M 200 3 = 0 then 1 else gF M 200 3) ∧ gF M' 200 4 = (if gF M 200 3 = 0 then nI (sk T n i) else gF M 200 4))
theorem mw_3 (c pl : Int32) (M : HS) : gF (mwrong c pl M) 200 3 = (if gF M 200 3 = 0 then c else gF M 200 3) := by
  unfold mwrong
  split
  · rfl
  · rfl
theorem mw_4 (c pl : Int32) (M : HS) : gF (mwrong c pl M) 200 4 = (if gF M 200 3 = 0 then pl else gF M 200 4) := by
  unfold mwrong
  split
  · rfl
  · rfl
theorem mw_k (c pl : Int32) (M : HS) {a k : Nat} (h : ¬ (a = 200 ∧ (k = 3 ∨ k = 4))) : gF (mwrong c pl M) a k = gF M a k := by
  unfold mwrong
  split
  · rw [rF, if_neg (fun z => h ⟨z.1, Or.inr z.2⟩), rF, if_neg (fun z => h ⟨z.1, Or.inl z.2⟩)]
  · rfl
theorem mw_L (c pl : Int32) (M : HS) (a k : Nat) : gL (mwrong c pl M) a k = gL M a k := by
  unfold mwrong
  split <;> rfl
theorem M_next {M : HS} {T : Nat → Int32} {n i : Nat} (h : LexM M T n i) : ∃ M', f_M_next FU M = some M' ∧ TokM M M' T n i ∧ FrM M M' := by
  obtain ⟨hsz, hat, hi, hn, hT⟩ := id h
  obtain ⟨s1, s2, s3⟩ := sk_le (T := T) (n := n) _ i rfl hi
  unfold f_M_next
  rw [show f_M_next_b0 FU FU M = _ from M_skip FU i M h (by show n - i < 10000; omega)]
  generalize hj : sk T n i = j at s1 s2 s3
  obtain ⟨r1, r2, r3⟩ := rn_le (T := T) (n := n) _ j rfl s2
  have hcj : (nI j).toNatClampNeg = j := cl_n (by omega)
  have fA : FrM M (sF (sF M 200 5 (nI j)) 200 7 (nI j)) := (FrM.sF (by decide)).tr (FrM.sF (by decide))
  unfold f_M_next_b52
  rw [lt_e, show gF (sF M 200 5 (nI j)) 200 5 = nI j from sF_at _ _ _ _]
  generalize hA : sF (sF M 200 5 (nI j)) 200 7 (nI j) = A at fA
  have a5 : gF A 200 5 = nI j := by rw [← hA]; rfl
  have a2 : gF A 200 2 = nI n := by rw [← hA]; exact hsz
  have a7 : gF A 200 7 = nI j := by rw [← hA]; rfl
  have a3 : gF A 200 3 = gF M 200 3 := by rw [← hA]; rfl
  have a4 : gF A 200 4 = gF M 200 4 := by rw [← hA]; rfl
  have aT : ∀ q, q < n → gF A 201 q = T q := by rw [← hA]; exact hT
  simp only [a5, a2, hcj]
  unfold TokM tkW tkV
  unfold tkS tkE
  rw [hj]
  by_cases e : j = n
  · rw [if_pos (by rw [e]), lt_e]
    refine ⟨_, rfl, ?_, fA.tr (FrM.sF (by decide))⟩
    simp only [if_pos e]
    exact ⟨by rw [← e]; exact a5, a7, fun _ => ⟨rfl, a3, a4, fun q => absurd q (by decide), fun q => absurd q (by decide)⟩, fun q => absurd q (by decide)⟩
  · have hlt : j < n := by omega
    rw [if_neg (fun q => e ((nI_eq (by omega) (by omega)).mp q)), gd_pos (in_n (by omega) (by omega))]
    simp only [if_neg e, aT j hlt]
    by_cases h40 : T j = 40
    · rw [if_pos h40]
      unfold f_M_next_b105
      simp only [a5, hcj, aT j hlt]
      rw [gd_pos (in_n (by omega) (by omega)), if_pos h40]
      unfold f_M_next_b125
      rw [lt_e, lt_e]
      refine ⟨_, rfl, ?_, fA.tr ((FrM.sF (by decide)).tr (FrM.sF (by decide)))⟩
      simp only [if_pos h40]
      exact ⟨by rw [sF_at, rF, if_neg (by decide), a5, nI_1], a7, fun _ => ⟨rfl, a3, a4, fun q => absurd q (by decide), fun q => absurd q (by decide)⟩, fun q => absurd q (by decide)⟩
    · rw [if_neg h40, gd_pos (in_n (by omega) (by omega))]
      simp only [if_neg h40]
      by_cases h41 : T j = 41
      · rw [if_pos h41]
        unfold f_M_next_b105
        simp only [a5, hcj, aT j hlt]
        rw [gd_pos (in_n (by omega) (by omega)), if_neg h40]
        unfold f_M_next_b125
        rw [lt_e, lt_e]
        refine ⟨_, rfl, ?_, fA.tr ((FrM.sF (by decide)).tr (FrM.sF (by decide)))⟩
        simp only [if_pos h41]
        exact ⟨by rw [sF_at, rF, if_neg (by decide), a5, nI_1], a7, fun _ => ⟨rfl, a3, a4, fun q => absurd q (by decide), fun q => absurd q (by decide)⟩, fun q => absurd q (by decide)⟩
      · rw [if_neg h41]
        simp only [if_neg h41]
        rw [show f_M_next_b139 FU FU A = _ from M_run FU j A ⟨a2, a5, s2, hn, aT⟩ (by show n - j < 10000; omega)]
        generalize hr : rn T n j = r at r1 r2 r3
        have fB : FrM M (sF A 200 5 (nI r)) := fA.tr (FrM.sF (by decide))
        generalize hB : sF A 200 5 (nI r) = B at fB
        have b5 : gF B 200 5 = nI r := by rw [← hB]; rfl
        have b7 : gF B 200 7 = nI j := by rw [← hB]; exact a7
        have b3 : gF B 200 3 = gF M 200 3 := by rw [← hB]; exact a3
        have b4 : gF B 200 4 = gF M 200 4 := by rw [← hB]; exact a4
        have bT : ∀ q, q < n → gF B 201 q = T q := by rw [← hB]; exact aT
        unfold mAfter
        simp only [b5, b7, hcj, bT j hlt]
        by_cases er : r = j
        · rw [if_pos (by rw [er]), wrong_e, ob_s]
          refine ⟨_, rfl, ?_, fB.tr FrM.wrong⟩
          simp only [if_pos er]
          exact ⟨by rw [mw_k _ _ _ (by decide), b5], by rw [mw_k _ _ _ (by decide), b7], fun q => absurd rfl q, fun _ => ⟨by rw [mw_3, b3], by rw [mw_4, b3, b4]⟩⟩
        · rw [if_neg (fun q => er ((nI_eq (by omega) (by omega)).mp q)), gd_pos (in_n (by omega) (by omega)), isLetter_e (r3 j (Nat.le_refl _) (by omega)), ob_s]
          simp only [if_neg er]
          by_cases h97 : 97 ≤ T j
          · simp only [if_pos h97]
            rw [if_neg (by decide)]
            obtain ⟨w, w1, w2⟩ := M_readName r2 hn bT b5 b7 (by omega) r3
            rw [w1, ob_s]
            by_cases ok : r - j ≤ 12 ∧ allL T (r - j) j = true
            · simp only [if_pos ok]
              refine ⟨_, rfl, ⟨b5, b7, fun _ => ⟨rfl, b3, b4, fun _ => ?_, fun q => absurd q (by decide)⟩, fun q => absurd q (by decide)⟩, fB.tr ((FrM.sF (by decide)).tr FrM.sL)⟩
              rw [sL_at, w2 ok]
            · simp only [if_neg ok]
              refine ⟨_, rfl, ⟨?_, ?_, fun q => absurd rfl q, fun _ => ⟨?_, ?_⟩⟩, fB.tr (((FrM.sF (by decide)).tr FrM.sL).tr FrM.wrong)⟩
              · rw [mw_k _ _ _ (by decide)]; exact b5
              · rw [mw_k _ _ _ (by decide)]; exact b7
              · rw [mw_3]; show (if gF B 200 3 = 0 then _ else gF B 200 3) = _; rw [b3]
              · rw [mw_4]; show (if gF B 200 3 = 0 then _ else gF B 200 4) = _; rw [b3, b4]
          · simp only [if_neg h97]
            rw [if_pos True.intro]
            obtain ⟨w, w1, w2⟩ := M_readNumber r2 hn bT b5 b7 (by omega)
            by_cases ok : numB T j r = true
            · simp only [if_pos ok]
              rw [w1 ((numB_iff _ _ _).mp ok), ob_s]
              exact ⟨_, rfl, ⟨b5, b7, fun _ => ⟨rfl, b3, b4, fun q => absurd q (by decide), fun _ => sF_at _ _ _ _⟩, fun q => absurd q (by decide)⟩, fB.tr ((FrM.sF (by decide)).tr (FrM.sF (by decide)))⟩
            · simp only [if_neg ok]
              rw [w2 (fun q => ok ((numB_iff _ _ _).mpr q)), ob_s]
              refine ⟨_, rfl, ⟨?_, ?_, fun q => absurd rfl q, fun _ => ⟨?_, ?_⟩⟩, fB.tr ((FrM.sF (by decide)).tr (FrM.wrong.tr (FrM.sF (by decide))))⟩
              · rw [rF, if_neg (by decide), mw_k _ _ _ (by decide)]; exact b5
              · rw [rF, if_neg (by decide), mw_k _ _ _ (by decide)]; exact b7
              · rw [rF, if_neg (by decide), mw_3]; show (if gF B 200 3 = 0 then _ else gF B 200 3) = _; rw [b3]
              · rw [rF, if_neg (by decide), mw_4]; show (if gF B 200 3 = 0 then _ else gF B 200 4) = _; rw [b3, b4]
