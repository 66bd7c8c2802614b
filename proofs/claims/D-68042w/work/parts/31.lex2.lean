-- names and numbers, in both lexers
def chN (b : Int32) : Nat := b.toInt.toNat
theorem ch_of {b : Int32} (h : ofB b = true) : b = nI (chN b) ∧ 45 ≤ chN b ∧ chN b ≤ 122 := by
  unfold ofB at h
  simp only [decide_eq_true_eq, Int32.le_iff_toInt_le] at h
  have e1 : (97 : Int32).toInt = 97 := rfl
  have e2 : (122 : Int32).toInt = 122 := rfl
  have e3 : (48 : Int32).toInt = 48 := rfl
  have e4 : (57 : Int32).toInt = 57 := rfl
  rw [e1, e2, e3, e4] at h
  have hb : 45 ≤ b.toInt ∧ b.toInt ≤ 122 := by
    rcases h with h | h | h
    · omega
    · omega
    · rw [h]; decide
  unfold chN
  refine ⟨?_, by omega, by omega⟩
  apply Int32.toInt_inj.mp
  rw [nI_toInt (by omega)]
  omega
theorem ch_ge {b : Int32} (h : ofB b = true) : 97 ≤ b ↔ 97 ≤ chN b := by
  obtain ⟨e, h1, h2⟩ := ch_of h
  conv => lhs; rw [e]
  exact nI_leI (a := 97) (by decide) (by omega)
def allL (T : Nat → Int32) : Nat → Nat → Bool
  | 0, _ => true
  | f + 1, q => decide (97 ≤ T q) && allL T f (q + 1)
def wN (T : Nat → Int32) : Nat → Nat → Nat → Nat
  | 0, _, w => w
  | f + 1, q, w => wN T f (q + 1) (32 * w + (chN (T q) - 96))
theorem sL_id {S : HS} {i k : Nat} {v : Int64} (h : gL S i k = v) : sL S i k v = S := by
  refine hs_ext (fun _ _ => rfl) (fun a b => ?_) (fun _ _ => rfl) rfl
  rw [rL]
  split
  · rename_i e; rw [e.1, e.2, h]
  · rfl
theorem w_stepC {b : Int32} (h : ofB b = true) (h97 : 97 ≤ b) (W : Nat) : (((32 : Int64) * lN W) + b.toInt64) - (96 : Int64) = lN (32 * W + (chN b - 96)) := by
  obtain ⟨e, h1, h2⟩ := ch_of h
  have h3 := (ch_ge h).mp h97
  rw [e, nI_l (by omega), show (32 : Int64) = lN 32 from rfl, show (96 : Int64) = lN 96 from rfl, lN_mul, lN_add, lN_sub (by omega), ← e]
  congr 1
  omega
theorem w_stepM {b : Int32} (h : ofB b = true) (h97 : 97 ≤ b) (W : Nat) : ((32 : Int64) * lN W) + ((b - (97 : Int32)) + (1 : Int32)).toInt64 = lN (32 * W + (chN b - 96)) := by
  obtain ⟨e, h1, h2⟩ := ch_of h
  have h3 := (ch_ge h).mp h97
  rw [e, show (97 : Int32) = nI 97 from rfl, pk_sub h3, nI_1, nI_l (by omega), show (32 : Int64) = lN 32 from rfl, lN_mul, lN_add, ← e]
  congr 1
  omega
theorem X_spell_bad (k : Nat) (x2 : Int32) (C : HS) : f_X_spell_b30 FU (k + 1) 0 x2 C = some (505, C) := by
  show f_X_spell_b30B FU (f_X_spell_b30 FU k) 0 x2 C = _
  unfold f_X_spell_b30B f_X_spell_b89
  rw [if_pos rfl]
  split <;> rfl
theorem X_spell_loop {T : Nat → Int32} {n r : Nat} (hr : r ≤ n) (hn : n ≤ 4000) : ∀ (k q W : Nat) (C : HS), (∀ j, j < n → gF C 2 j = T j) → gF C 1 2 = nI r → q ≤ r → (∀ j, q ≤ j → j < r → ofB (T j) = true) → gL C 1 5 = lN W → r - q < k →
    ∃ w, f_X_spell_b30 FU k 1 (nI q) C = some ((if allL T (r - q) q = true then 502 else 505), sL C 1 5 w) ∧ (allL T (r - q) q = true → w = lN (wN T (r - q) q W))
  | 0, q, W, C, _, _, _, _, _, h => absurd h (by omega)
  | k + 1, q, W, C, hT, hat, hq, hrun, hw, hk => by
    show ∃ w, f_X_spell_b30B FU (f_X_spell_b30 FU k) 1 (nI q) C = _ ∧ _
    unfold f_X_spell_b30B
    by_cases e : q = r
    · subst e
      refine ⟨lN W, ?_, fun _ => by rw [Nat.sub_self]; rfl⟩
      rw [if_pos (by rw [hat]; exact Int32.le_refl _), Nat.sub_self, if_pos (show allL T 0 q = true from rfl), sL_id hw]
      rfl
    · have hlt : q < r := by omega
      have hc : (nI q).toNatClampNeg = q := cl_n (by omega)
      have hof := hrun q (Nat.le_refl _) hlt
      simp only [hat, hc, hT q (by omega)]
      rw [if_neg (nI_ge hlt (by omega)), if_neg (by decide), gd_pos (in_n (by omega) (by omega)), show r - q = (r - (q + 1)) + 1 by omega]
      have eL : allL T (r - (q + 1) + 1) q = (decide (97 ≤ T q) && allL T (r - (q + 1)) (q + 1)) := rfl
      have eW : wN T (r - (q + 1) + 1) q W = wN T (r - (q + 1)) (q + 1) (32 * W + (chN (T q) - 96)) := rfl
      rw [eL, eW]
      by_cases h97 : 97 ≤ T q
      · rw [if_neg (Int32.not_lt.mpr h97)]
        unfold f_X_spell_b58
        rw [lt_e, gd_pos (in_n (by omega) (by omega)), lt_e, lt_e, hc, hT q (by omega), hw, w_stepC hof h97, nI_1]
        obtain ⟨w, h1, h2⟩ := X_spell_loop hr hn k (q + 1) (32 * W + (chN (T q) - 96)) (sL C 1 5 (lN (32 * W + (chN (T q) - 96)))) hT hat (by omega) (fun j g1 g2 => hrun j (by omega) g2) (by rw [rL]; rfl) (by omega)
        rw [h1, sL_sL]
        refine ⟨w, ?_, fun h => h2 (by simpa [h97] using h)⟩
        simp only [h97, decide_true, Bool.true_and]
      · rw [if_pos (Int32.not_le.mp h97)]
        unfold f_X_spell_b58
        rw [lt_e, gd_pos (in_n (by omega) (by omega)), lt_e, lt_e]
        match k, hk with
        | 0, hk => exact absurd hk (by omega)
        | k + 1, hk =>
          rw [X_spell_bad]
          simp only [h97, decide_false, Bool.false_and, Bool.false_eq_true, if_false]
          exact ⟨_, rfl, fun h => h.elim⟩
theorem X_spell {T : Nat → Int32} {n j r : Nat} {C : HS} (hr : r ≤ n) (hn : n ≤ 4000) (hT : ∀ q, q < n → gF C 2 q = T q) (hat : gF C 1 2 = nI r) (hpl : gF C 1 4 = nI j) (hj : j ≤ r) (hrun : ∀ q, j ≤ q → q < r → ofB (T q) = true) :
    ∃ w, f_X_spell FU C = some ((if r - j ≤ 12 ∧ allL T (r - j) j = true then 502 else 505), sL C 1 5 w) ∧ (r - j ≤ 12 ∧ allL T (r - j) j = true → w = lN (wN T (r - j) j 0)) := by
  unfold f_X_spell
  rw [lt_e]
  simp only [rFL, hat, hpl, pk_sub hj]
  by_cases h12 : r - j ≤ 12
  · rw [if_neg (show ¬ (12 : Int32) < nI (r - j) from nI_nlt (a := 12) h12 (by decide))]
    unfold f_X_spell_b24
    rw [lt_e, lt_e, rFL, hpl]
    obtain ⟨w, h1, h2⟩ := X_spell_loop hr hn FU j 0 (sL C 1 5 0) hT hat hj hrun (by rw [rL]; rfl) (by show r - j < 10000; omega)
    rw [h1, sL_sL]
    refine ⟨w, ?_, fun h => h2 h.2⟩
    simp only [h12, true_and]
  · rw [if_pos (show (12 : Int32) < nI (r - j) from nI_lt (a := 12) (by omega) (by omega))]
    unfold f_X_spell_b24
    rw [lt_e, lt_e, rFL, hpl]
    refine ⟨0, ?_, fun h => absurd h.1 h12⟩
    rw [if_neg (fun h => h12 h.1)]
    exact X_spell_bad 9999 _ _
def mwrong (c pl : Int32) (M : HS) : HS := if gF M 200 3 = 0 then sF (sF M 200 3 c) 200 4 pl else M
theorem wrong_e (c pl : Int32) (M : HS) : f_M_wrong c pl M = some (mwrong c pl M) := by
  unfold f_M_wrong mwrong
  split <;> rfl
theorem isLetter_e {b : Int32} (h : ofB b = true) : f_M_isLetter b = some (if 97 ≤ b then 1 else 0) := by
  obtain ⟨e, h1, h2⟩ := ch_of h
  have hle : b ≤ 122 := by rw [e]; exact nI_le (b := 122) h2 (by decide)
  unfold f_M_isLetter
  by_cases h97 : 97 ≤ b
  · rw [if_neg (Int32.not_lt.mpr h97), if_neg (Int32.not_lt.mpr hle), if_pos h97]
  · rw [if_pos (Int32.not_le.mp h97), if_neg h97]
theorem M_name_loop {T : Nat → Int32} {n r : Nat} (hr : r ≤ n) (hn : n ≤ 4000) : ∀ (k q W : Nat) (g : Int32) (M : HS), (g = 0 ∨ g = 1) → (∀ j, j < n → gF M 201 j = T j) → gF M 200 5 = nI r → q ≤ r → (∀ j, q ≤ j → j < r → ofB (T j) = true) → (g = 1 → gL M 200 8 = lN W) → r - q < k →
    ∃ w, (f_M_readName_b35 FU k g (nI q) M = some (if g = 1 ∧ allL T (r - q) q = true then sL M 200 8 w else mwrong 1 (gF M 200 7) (sL M 200 8 w))) ∧ (g = 1 ∧ allL T (r - q) q = true → w = lN (wN T (r - q) q W))
  | 0, q, W, g, M, _, _, _, _, _, _, h => absurd h (by omega)
  | k + 1, q, W, g, M, hg, hT, hat, hq, hrun, hw, hk => by
    show ∃ w, (f_M_readName_b35B FU (f_M_readName_b35 FU k) g (nI q) M = _) ∧ _
    unfold f_M_readName_b35B
    by_cases e : q = r
    · subst e
      rw [if_pos (by rw [hat]; exact Int32.le_refl _), Nat.sub_self]
      rcases hg with rfl | rfl
      · refine ⟨gL M 200 8, ?_, fun h => absurd h.1 (by decide)⟩
        rw [if_pos rfl, if_neg (fun h => absurd h.1 (by decide)), wrong_e, ob_s, sL_id rfl]
      · refine ⟨lN W, ?_, fun _ => rfl⟩
        rw [if_neg (by decide), if_pos ⟨rfl, rfl⟩, sL_id (hw rfl)]
    · have hlt : q < r := by omega
      have hc : (nI q).toNatClampNeg = q := cl_n (by omega)
      have hof := hrun q (Nat.le_refl _) hlt
      simp only [hat, hc, hT q (by omega), isLetter_e hof, ob_s]
      rw [if_neg (nI_ge hlt (by omega)), show r - q = (r - (q + 1)) + 1 by omega]
      have eL : allL T (r - (q + 1) + 1) q = (decide (97 ≤ T q) && allL T (r - (q + 1)) (q + 1)) := rfl
      have eW : wN T (r - (q + 1) + 1) q W = wN T (r - (q + 1)) (q + 1) (32 * W + (chN (T q) - 96)) := rfl
      rw [eL, eW]
      have bad : ∃ w, f_M_readName_b63 FU (f_M_readName_b35 FU k) (nI q) M = some (mwrong 1 (gF M 200 7) (sL M 200 8 w)) := by
        unfold f_M_readName_b63 f_M_readName_b64
        rw [lt_e, gd_pos (in_n (by omega) (by omega)), lt_e, lt_e, nI_1]
        obtain ⟨w, h1, -⟩ := M_name_loop hr hn k (q + 1) 0 0 (sL M 200 8 (((32 : Int64) * (gL M 200 8)) + (((gF M 201 (nI q).toNatClampNeg) - (97 : Int32)) + (1 : Int32)).toInt64)) (Or.inl rfl) hT hat (by omega) (fun j g1 g2 => hrun j (by omega) g2) (fun h => absurd h (by decide)) (by omega)
        rw [h1, if_neg (fun h => absurd h.1 (by decide)), sL_sL]
        exact ⟨w, rfl⟩
      rcases hg with rfl | rfl
      · rw [if_pos rfl]
        obtain ⟨w, hb⟩ := bad
        exact ⟨w, by rw [hb, if_neg (fun h => absurd h.1 (by decide))], fun h => absurd h.1 (by decide)⟩
      · rw [if_neg (by decide), gd_pos (in_n (by omega) (by omega))]
        by_cases h97 : 97 ≤ T q
        · rw [if_pos h97, if_neg (by decide)]
          unfold f_M_readName_b64
          rw [lt_e, gd_pos (in_n (by omega) (by omega)), lt_e, lt_e, hc, hT q (by omega), hw rfl, w_stepM hof h97, nI_1]
          obtain ⟨w, h1, h2⟩ := M_name_loop hr hn k (q + 1) (32 * W + (chN (T q) - 96)) 1 (sL M 200 8 (lN (32 * W + (chN (T q) - 96)))) (Or.inr rfl) hT hat (by omega) (fun j g1 g2 => hrun j (by omega) g2) (fun _ => by rw [rL]; rfl) (by omega)
          rw [h1, sL_sL]
          refine ⟨w, ?_, fun h => h2 ⟨rfl, by simpa [h97] using h.2⟩⟩
          simp only [h97, decide_true, Bool.true_and]
          rfl
        · rw [if_neg h97, if_pos rfl]
          obtain ⟨w, hb⟩ := bad
          refine ⟨w, ?_, fun h => absurd h.2 (by simp [h97])⟩
          rw [hb, if_neg (fun h => absurd h.2 (by simp [h97]))]
theorem M_readName {T : Nat → Int32} {n j r : Nat} {M : HS} (hr : r ≤ n) (hn : n ≤ 4000) (hT : ∀ q, q < n → gF M 201 q = T q) (hat : gF M 200 5 = nI r) (hpl : gF M 200 7 = nI j) (hj : j ≤ r) (hrun : ∀ q, j ≤ q → q < r → ofB (T q) = true) :
    ∃ w, f_M_readName FU M = some (if r - j ≤ 12 ∧ allL T (r - j) j = true then sL (sF M 200 6 2) 200 8 w else mwrong 1 (nI j) (sL (sF M 200 6 2) 200 8 w)) ∧ (r - j ≤ 12 ∧ allL T (r - j) j = true → w = lN (wN T (r - j) j 0)) := by
  unfold f_M_readName
  rw [lt_e, lt_e]
  simp only [rFL, rF, hat, hpl, pk_sub hj]
  have e5 : gF (sL (sF M 200 6 2) 200 8 0) 200 7 = nI j := hpl
  by_cases h12 : r - j ≤ 12
  · rw [if_neg (show ¬ (12 : Int32) < _ from fun h => absurd (show (12 : Int32) < nI (r - j) from by simpa [pk_sub hj] using h) (nI_nlt (a := 12) h12 (by decide)))]
    unfold f_M_readName_b29
    rw [lt_e, lt_e, e5]
    obtain ⟨w, h1, h2⟩ := M_name_loop hr hn FU j 0 1 (sL (sF M 200 6 2) 200 8 0) (Or.inr rfl) hT hat hj hrun (fun _ => by rw [rL]; rfl) (by show r - j < 10000; omega)
    rw [h1, sL_sL, e5]
    refine ⟨w, ?_, fun h => h2 ⟨rfl, h.2⟩⟩
    simp only [h12, true_and]
  · rw [if_pos (show (12 : Int32) < _ from by simpa [pk_sub hj] using (show (12 : Int32) < nI (r - j) from nI_lt (a := 12) (by omega) (by omega)))]
    unfold f_M_readName_b29
    rw [lt_e, lt_e, e5]
    obtain ⟨w, h1, -⟩ := M_name_loop hr hn FU j 0 0 (sL (sF M 200 6 2) 200 8 0) (Or.inl rfl) hT hat hj hrun (fun h => absurd h (by decide)) (by show r - j < 10000; omega)
    rw [h1, sL_sL, e5, if_neg (fun h => absurd h.1 (by decide))]
    exact ⟨w, by rw [if_neg (fun h => h12 h.1)], fun h => absurd h.1 h12⟩
