-- numbers
def allD (T : Nat → Int32) : Nat → Nat → Bool
  | 0, _ => true
  | f + 1, q => decide (48 ≤ T q ∧ T q ≤ 57) && allD T f (q + 1)
def vN (T : Nat → Int32) : Nat → Nat → Nat → Nat
  | 0, _, v => v
  | f + 1, q, v => vN T f (q + 1) (10 * v + (chN (T q) - 48))
theorem vN_ge (T : Nat → Int32) : ∀ (f q v : Nat), v ≤ vN T f q v
  | 0, _, _ => Nat.le_refl _
  | f + 1, q, v => Nat.le_trans (by omega) (vN_ge T f (q + 1) (10 * v + (chN (T q) - 48)))
theorem dg_of {b : Int32} (h : 48 ≤ b ∧ b ≤ 57) : b = nI (chN b) ∧ 48 ≤ chN b ∧ chN b ≤ 57 := by
  have h1 := Int32.le_iff_toInt_le.mp h.1
  have h2 := Int32.le_iff_toInt_le.mp h.2
  have e3 : (48 : Int32).toInt = 48 := rfl
  have e4 : (57 : Int32).toInt = 57 := rfl
  rw [e3] at h1
  rw [e4] at h2
  unfold chN
  refine ⟨?_, by omega, by omega⟩
  apply Int32.toInt_inj.mp
  rw [nI_toInt (by omega)]
  omega
theorem v_stepC {b : Int32} (h : 48 ≤ b ∧ b ≤ 57) (V : Nat) : (((10 : Int64) * lN V) + b.toInt64) - (48 : Int64) = lN (10 * V + (chN b - 48)) := by
  obtain ⟨e, h1, h2⟩ := dg_of h
  rw [e, nI_l (by omega), show (10 : Int64) = lN 10 from rfl, show (48 : Int64) = lN 48 from rfl, lN_mul, lN_add, lN_sub (by omega), ← e]
  congr 1
  omega
theorem v_stepM {b : Int32} (h : 48 ≤ b ∧ b ≤ 57) (V : Nat) : ((10 : Int64) * lN V) + (b - (48 : Int32)).toInt64 = lN (10 * V + (chN b - 48)) := by
  obtain ⟨e, h1, h2⟩ := dg_of h
  rw [e, show (48 : Int32) = nI 48 from rfl, pk_sub h1, nI_l (by omega), show (10 : Int64) = lN 10 from rfl, lN_mul, lN_add, ← e]
theorem X_count_bad (k : Nat) (x1 x6 : Int32) (v : Int64) (C : HS) : f_X_count_b61 FU (k + 1) x1 v 0 x6 C = f_X_count_b151 FU x1 v 0 C := by
  show f_X_count_b61B FU (f_X_count_b61 FU k) x1 v 0 x6 C = _
  unfold f_X_count_b61B
  rw [if_pos rfl]
  split <;> rfl
theorem X_count_loop {T : Nat → Int32} {n r : Nat} (x1 : Int32) (hr : r ≤ n) (hn : n ≤ 4000) : ∀ (k q V : Nat) (C : HS), V ≤ 2147483648 → (∀ j, j < n → gF C 2 j = T j) → gF C 1 2 = nI r → q ≤ r → r - q < k →
    ∃ v, f_X_count_b61 FU k x1 (lN V) 1 (nI q) C = f_X_count_b151 FU x1 v (if allD T (r - q) q = true ∧ vN T (r - q) q V ≤ 2147483648 then 1 else 0) C ∧ (allD T (r - q) q = true ∧ vN T (r - q) q V ≤ 2147483648 → v = lN (vN T (r - q) q V))
  | 0, q, V, C, _, _, _, _, h => absurd h (by omega)
  | k + 1, q, V, C, hV, hT, hat, hq, hk => by
    show ∃ v, f_X_count_b61B FU (f_X_count_b61 FU k) x1 (lN V) 1 (nI q) C = _ ∧ _
    unfold f_X_count_b61B
    by_cases e : q = r
    · subst e
      rw [if_pos (by rw [hat]; exact Int32.le_refl _), Nat.sub_self]
      refine ⟨lN V, ?_, fun _ => rfl⟩
      rw [if_pos (show allD T 0 q = true ∧ vN T 0 q V ≤ 2147483648 from ⟨rfl, hV⟩)]
    · have hlt : q < r := by omega
      have hc : (nI q).toNatClampNeg = q := cl_n (by omega)
      simp only [hat, hc, hT q (by omega)]
      rw [if_neg (nI_ge hlt (by omega)), if_neg (by decide), gd_pos (in_n (by omega) (by omega)), show r - q = (r - (q + 1)) + 1 by omega]
      have eL : allD T (r - (q + 1) + 1) q = (decide (48 ≤ T q ∧ T q ≤ 57) && allD T (r - (q + 1)) (q + 1)) := rfl
      have eW : vN T (r - (q + 1) + 1) q V = vN T (r - (q + 1)) (q + 1) (10 * V + (chN (T q) - 48)) := rfl
      rw [eL, eW]
      obtain ⟨k, rfl⟩ : ∃ k', k = k' + 1 := ⟨k - 1, by omega⟩
      have bad : ¬ (48 ≤ T q ∧ T q ≤ 57) → ∃ v, f_X_count_b103 FU (f_X_count_b61 FU (k + 1)) x1 (lN V) (nI q) C = f_X_count_b151 FU x1 v (if (decide (48 ≤ T q ∧ T q ≤ 57) && allD T (r - (q + 1)) (q + 1)) = true ∧ vN T (r - (q + 1)) (q + 1) (10 * V + (chN (T q) - 48)) ≤ 2147483648 then 1 else 0) C ∧ ((decide (48 ≤ T q ∧ T q ≤ 57) && allD T (r - (q + 1)) (q + 1)) = true ∧ vN T (r - (q + 1)) (q + 1) (10 * V + (chN (T q) - 48)) ≤ 2147483648 → v = lN (vN T (r - (q + 1)) (q + 1) (10 * V + (chN (T q) - 48)))) := by
        intro hb
        unfold f_X_count_b103 f_X_count_b104 f_X_count_b142 f_X_count_b143
        rw [lt_e, gd_pos (in_n (by omega) (by omega)), lt_e, if_pos rfl, lt_e, lt_e, X_count_bad]
        have hng : ¬ ((decide (48 ≤ T q ∧ T q ≤ 57) && allD T (r - (q + 1)) (q + 1)) = true ∧ vN T (r - (q + 1)) (q + 1) (10 * V + (chN (T q) - 48)) ≤ 2147483648) := fun h => absurd h.1 (by simp [hb])
        rw [if_neg hng]
        exact ⟨_, rfl, fun h => absurd h hng⟩
      by_cases h48 : T q < 48
      · rw [if_pos h48]
        exact bad (fun h => absurd h48 (Int32.not_lt.mpr h.1))
      · rw [if_neg h48, gd_pos (in_n (by omega) (by omega))]
        by_cases h57 : 57 < T q
        · rw [if_pos h57]
          exact bad (fun h => absurd h57 (Int32.not_lt.mpr h.2))
        · rw [if_neg h57]
          have hd : 48 ≤ T q ∧ T q ≤ 57 := ⟨Int32.not_lt.mp h48, Int32.not_lt.mp h57⟩
          have hd9 := dg_of hd
          unfold f_X_count_b104
          rw [lt_e, gd_pos (in_n (by omega) (by omega)), lt_e, if_neg (by decide), hc, hT q (by omega), v_stepC hd]
          by_cases hb : 10 * V + (chN (T q) - 48) ≤ 2147483648
          · rw [if_neg (by rw [lg_cmp_gt]; show ¬ lN 2147483648 < _; rw [pk_lLT (by decide) (by omega)]; omega)]
            unfold f_X_count_b143
            rw [lt_e, lt_e, nI_1]
            obtain ⟨v, h1, h2⟩ := X_count_loop x1 hr hn (k + 1) (q + 1) (10 * V + (chN (T q) - 48)) C hb hT hat (by omega) (by omega)
            refine ⟨v, ?_, fun h => h2 ⟨by simpa [hd] using h.1, h.2⟩⟩
            rw [h1]
            simp only [hd, and_self, decide_true, Bool.true_and]
          · rw [if_pos (by rw [lg_cmp_gt]; show lN 2147483648 < _; rw [pk_lLT (by decide) (by omega)]; omega)]
            unfold f_X_count_b142 f_X_count_b143
            rw [lt_e, lt_e, X_count_bad]
            have hbig : ¬ vN T (r - (q + 1)) (q + 1) (10 * V + (chN (T q) - 48)) ≤ 2147483648 := by
              have := vN_ge T (r - (q + 1)) (q + 1) (10 * V + (chN (T q) - 48))
              omega
            rw [if_neg (fun h => hbig h.2)]
            exact ⟨_, rfl, fun h => absurd h.2 hbig⟩
def nFrom (T : Nat → Int32) (j : Nat) : Nat := if T j = 45 then j + 1 else j
def numV (T : Nat → Int32) (j r : Nat) : Nat := vN T (r - nFrom T j) (nFrom T j) 0
def numOK (T : Nat → Int32) (j r : Nat) : Prop := nFrom T j < r ∧ allD T (r - nFrom T j) (nFrom T j) = true ∧ numV T j r ≤ (if T j = 45 then 2147483648 else 2147483647)
def nvl (T : Nat → Int32) (j r : Nat) : Int32 := if T j = 45 then (-(lN (numV T j r))).toInt32 else (lN (numV T j r)).toInt32
theorem X_c161 (x5 : Int32) (v : Int64) (C : HS) : f_X_count_b161 FU x5 v C = some (if x5 = 0 ∨ 2147483647 < v then 505 else 503, sF C 1 6 v.toInt32) := by
  unfold f_X_count_b161
  rw [lt_e, lt_e]
  by_cases h : x5 = 0
  · rw [if_pos h, if_pos (Or.inl h)]
  · rw [if_neg h]
    by_cases h2 : 2147483647 < v
    · rw [if_pos ((lg_cmp_gt _ _).mpr h2), if_pos (Or.inr h2)]
    · rw [if_neg (fun q => h2 ((lg_cmp_gt _ _).mp q)), if_neg (fun q => q.elim h h2)]
theorem neg_small {V : Nat} (h : V < 2 ^ 62) : ¬ (2147483647 : Int64) < -(lN V) := by
  rw [Int64.lt_iff_toInt_lt]
  have e : (-(lN V)).toInt = -(V : Int) := Int64.toInt_neg_ofNat_of_le (by omega)
  have e2 : (2147483647 : Int64).toInt = 2147483647 := rfl
  rw [e, e2]
  omega
theorem X_count {T : Nat → Int32} {n j r : Nat} {C : HS} (hr : r ≤ n) (hn : n ≤ 4000) (hT : ∀ q, q < n → gF C 2 q = T q) (hat : gF C 1 2 = nI r) (hpl : gF C 1 4 = nI j) (hj : j < r) :
    ∃ (z : Nat) (w : Int32), f_X_count FU C = some (z, sF C 1 6 w) ∧ (numOK T j r → z = 503 ∧ w = nvl T j r) ∧ (¬ numOK T j r → z = 505) := by
  have hc : (nI j).toNatClampNeg = j := cl_n (by omega)
  unfold f_X_count
  simp only [hpl, hc, hT j (by omega)]
  rw [gd_pos (in_n (by omega) (by omega))]
  by_cases h45 : T j = 45
  · rw [if_pos h45]
    unfold f_X_count_b19
    rw [lt_e, lt_e, if_neg (by decide), hpl, nI_1]
    unfold f_X_count_b39
    rw [lt_e, hat]
    have hF : nFrom T j = j + 1 := if_pos h45
    by_cases he : r ≤ j + 1
    · rw [if_pos (nI_le he (by omega))]
      unfold f_X_count_b55
      rw [lt_e, lt_e, show f_X_count_b61 FU FU 1 0 0 (nI (j + 1)) C = _ from X_count_bad 9999 1 (nI (j + 1)) 0 C]
      unfold f_X_count_b151
      rw [if_neg (by decide), X_c161]
      refine ⟨_, _, rfl, fun h => ?_, fun _ => if_pos (Or.inl rfl)⟩
      have := h.1
      rw [hF] at this
      omega
    · rw [if_neg (nI_ge (by omega) (by omega))]
      unfold f_X_count_b55
      rw [lt_e, lt_e]
      obtain ⟨v, h1, h2⟩ := X_count_loop (T := T) 1 hr hn FU (j + 1) 0 C (by decide) hT hat (by omega) (by show r - (j + 1) < 10000; omega)
      rw [show (0 : Int64) = lN 0 from rfl, h1]
      unfold f_X_count_b151
      rw [if_neg (by decide), X_c161]
      have hN : numOK T j r ↔ (allD T (r - (j + 1)) (j + 1) = true ∧ vN T (r - (j + 1)) (j + 1) 0 ≤ 2147483648) := by
        unfold numOK numV
        rw [hF, if_pos h45]
        exact ⟨fun h => h.2, fun h => ⟨by omega, h⟩⟩
      refine ⟨_, _, rfl, fun h => ?_, fun h => ?_⟩
      · have h' := hN.mp h
        rw [if_pos h', h2 h', if_neg (fun q => q.elim (by decide) (neg_small (by omega)))]
        refine ⟨rfl, ?_⟩
        unfold nvl numV
        rw [if_pos h45, hF]
      · rw [if_neg (fun q => h (hN.mpr q)), if_pos (Or.inl rfl)]
  · rw [if_neg h45]
    unfold f_X_count_b19
    rw [lt_e, lt_e, if_pos rfl, hpl]
    unfold f_X_count_b39
    rw [lt_e, hat, if_neg (nI_ge hj (by omega))]
    have hF : nFrom T j = j := if_neg h45
    unfold f_X_count_b55
    rw [lt_e, lt_e]
    obtain ⟨v, h1, h2⟩ := X_count_loop (T := T) 0 hr hn FU j 0 C (by decide) hT hat (by omega) (by show r - j < 10000; omega)
    rw [show (0 : Int64) = lN 0 from rfl, h1]
    unfold f_X_count_b151
    rw [if_pos rfl, X_c161]
    have hN : numOK T j r ↔ (allD T (r - j) j = true ∧ vN T (r - j) j 0 ≤ 2147483647) := by
      unfold numOK numV
      rw [hF, if_neg h45]
      exact ⟨fun h => h.2, fun h => ⟨hj, h⟩⟩
    refine ⟨_, _, rfl, fun h => ?_, fun h => ?_⟩
    · have h' := hN.mp h
      have h'' : allD T (r - j) j = true ∧ vN T (r - j) j 0 ≤ 2147483648 := ⟨h'.1, by omega⟩
      rw [if_pos h'', h2 h'', if_neg (fun q => q.elim (by decide) (by
        show ¬ lN 2147483647 < _
        rw [pk_lLT (by decide) (by omega)]
        omega))]
      refine ⟨rfl, ?_⟩
      unfold nvl numV
      rw [if_neg h45, hF]
    · by_cases hd : allD T (r - j) j = true ∧ vN T (r - j) j 0 ≤ 2147483648
      · rw [if_pos hd, h2 hd, if_pos (Or.inr (by
          show lN 2147483647 < _
          rw [pk_lLT (by decide) (by omega)]
          have : ¬ vN T (r - j) j 0 ≤ 2147483647 := fun q => h (hN.mpr ⟨hd.1, q⟩)
          omega))]
      · rw [if_neg hd, if_pos (Or.inl rfl)]
theorem isDigit_e (b : Int32) : f_M_isDigit b = some (if 48 ≤ b ∧ b ≤ 57 then 1 else 0) := by
  unfold f_M_isDigit
  by_cases h1 : b < 48
  · rw [if_pos h1, if_neg (fun h => absurd h1 (Int32.not_lt.mpr h.1))]
  · rw [if_neg h1]
    by_cases h2 : 57 < b
    · rw [if_pos h2, if_neg (fun h => absurd h2 (Int32.not_lt.mpr h.2))]
    · rw [if_neg h2, if_pos ⟨Int32.not_lt.mp h1, Int32.not_lt.mp h2⟩]
/-- the model's number, which stays where it is when it is large -/
def satJ (v : Int64) (V : Nat) : Prop := ∃ U, v = lN U ∧ U ≤ 1000000000000 ∧ (U = V ∨ (99999999999 < U ∧ 99999999999 < V))
theorem M_num_loop {T : Nat → Int32} {n r j : Nat} (x1 : Int32) (hr : r ≤ n) (hn : n ≤ 4000) : ∀ (k q V : Nat) (g : Int32) (v : Int64) (M : HS), (g = 0 ∨ g = 1) → (∀ i, i < n → gF M 201 i = T i) → gF M 200 5 = nI r → gF M 200 7 = nI j → q ≤ r → (g = 1 → satJ v V) → r - q < k →
    ∃ v', f_M_readNumber_b52 FU k x1 g v (nI q) M = (if x1 ≤ nI j then f_M_readNumber_b134 FU (if g = 1 ∧ allD T (r - q) q = true then 1 else 0) v' M else f_M_readNumber_b134 FU (if g = 1 ∧ allD T (r - q) q = true then 1 else 0) (-v') M) ∧ (g = 1 ∧ allD T (r - q) q = true → satJ v' (vN T (r - q) q V))
  | 0, q, V, g, v, M, _, _, _, _, _, _, h => absurd h (by omega)
  | k + 1, q, V, g, v, M, hg, hT, hat, hpl, hq, hJ, hk => by
    show ∃ v', f_M_readNumber_b52B FU (f_M_readNumber_b52 FU k) x1 g v (nI q) M = _ ∧ _
    unfold f_M_readNumber_b52B
    by_cases e : q = r
    · subst e
      rw [if_pos (by rw [hat]; exact Int32.le_refl _), Nat.sub_self, hpl]
      refine ⟨v, ?_, fun h => hJ h.1⟩
      rcases hg with rfl | rfl
      · rw [if_neg (show ¬ ((0 : Int32) = 1 ∧ allD T 0 q = true) from fun h => absurd h.1 (by decide))]
      · rw [if_pos (show (1 : Int32) = 1 ∧ allD T 0 q = true from ⟨rfl, rfl⟩)]
    · have hlt : q < r := by omega
      have hc : (nI q).toNatClampNeg = q := cl_n (by omega)
      simp only [hat, hc, hT q (by omega), isDigit_e, ob_s]
      rw [if_neg (nI_ge hlt (by omega)), show r - q = (r - (q + 1)) + 1 by omega]
      have eL : allD T (r - (q + 1) + 1) q = (decide (48 ≤ T q ∧ T q ≤ 57) && allD T (r - (q + 1)) (q + 1)) := rfl
      have eW : vN T (r - (q + 1) + 1) q V = vN T (r - (q + 1)) (q + 1) (10 * V + (chN (T q) - 48)) := rfl
      rw [eL, eW]
      have bad : ∃ v', f_M_readNumber_b82 FU (f_M_readNumber_b52 FU k) x1 v (nI q) M = (if x1 ≤ nI j then f_M_readNumber_b134 FU 0 v' M else f_M_readNumber_b134 FU 0 (-v') M) := by
        have go : ∀ u : Int64, ∃ v', f_M_readNumber_b113 FU (f_M_readNumber_b52 FU k) x1 0 (nI q) u M = (if x1 ≤ nI j then f_M_readNumber_b134 FU 0 v' M else f_M_readNumber_b134 FU 0 (-v') M) := by
          intro u
          unfold f_M_readNumber_b113
          rw [lt_e, lt_e, nI_1]
          obtain ⟨v', h1, -⟩ := M_num_loop x1 hr hn k (q + 1) 0 0 u M (Or.inl rfl) hT hat hpl (by omega) (fun h => absurd h (by decide)) (by omega)
          rw [h1, if_neg (show ¬ ((0 : Int32) = 1 ∧ allD T (r - (q + 1)) (q + 1) = true) from fun h => absurd h.1 (by decide))]
          exact ⟨v', rfl⟩
        unfold f_M_readNumber_b82 f_M_readNumber_b83
        rw [lt_e]
        split
        · rw [gd_pos (in_n (by omega) (by omega))]; exact go _
        · exact go _
      rcases hg with rfl | rfl
      · rw [if_pos rfl]
        obtain ⟨v', hb⟩ := bad
        refine ⟨v', ?_, fun h => absurd h.1 (by decide)⟩
        rw [hb, if_neg (show ¬ ((0 : Int32) = 1 ∧ (decide (48 ≤ T q ∧ T q ≤ 57) && allD T (r - (q + 1)) (q + 1)) = true) from fun h => absurd h.1 (by decide))]
      · rw [if_neg (by decide), gd_pos (in_n (by omega) (by omega))]
        by_cases hd : 48 ≤ T q ∧ T q ≤ 57
        · rw [if_pos hd, if_neg (by decide)]
          have hd9 := dg_of hd
          have step : ∀ u : Int64, satJ u (10 * V + (chN (T q) - 48)) → ∃ v', f_M_readNumber_b113 FU (f_M_readNumber_b52 FU k) x1 1 (nI q) u M = (if x1 ≤ nI j then f_M_readNumber_b134 FU (if (1 : Int32) = 1 ∧ (decide (48 ≤ T q ∧ T q ≤ 57) && allD T (r - (q + 1)) (q + 1)) = true then 1 else 0) v' M else f_M_readNumber_b134 FU (if (1 : Int32) = 1 ∧ (decide (48 ≤ T q ∧ T q ≤ 57) && allD T (r - (q + 1)) (q + 1)) = true then 1 else 0) (-v') M) ∧ ((1 : Int32) = 1 ∧ (decide (48 ≤ T q ∧ T q ≤ 57) && allD T (r - (q + 1)) (q + 1)) = true → satJ v' (vN T (r - (q + 1)) (q + 1) (10 * V + (chN (T q) - 48)))) := by
            intro u hu
            unfold f_M_readNumber_b113
            rw [lt_e, lt_e, nI_1]
            obtain ⟨v', h1, h2⟩ := M_num_loop x1 hr hn k (q + 1) (10 * V + (chN (T q) - 48)) 1 u M (Or.inr rfl) hT hat hpl (by omega) (fun _ => hu) (by omega)
            rw [h1]
            refine ⟨v', ?_, fun h => h2 ⟨rfl, by simpa [hd] using h.2⟩⟩
            simp only [hd, and_self, decide_true, Bool.true_and]
          obtain ⟨U, rfl, hU, hUV⟩ := hJ rfl
          unfold f_M_readNumber_b83
          rw [lt_e]
          by_cases hbig : U ≤ 99999999999
          · rw [if_pos (by rw [lg_cmp_le]; show _ ≤ lN 99999999999; rw [pk_lLE (by omega) (by decide)]; exact hbig), gd_pos (in_n (by omega) (by omega)), hc, hT q (by omega), v_stepM hd]
            refine step _ ⟨_, rfl, by omega, ?_⟩
            rcases hUV with h | h
            · left; rw [h]
            · omega
          · rw [if_neg (by rw [lg_cmp_le]; show ¬ _ ≤ lN 99999999999; rw [pk_lLE (by omega) (by decide)]; exact hbig)]
            refine step _ ⟨U, rfl, hU, Or.inr ⟨by omega, ?_⟩⟩
            rcases hUV with h | h
            · omega
            · omega
        · rw [if_neg hd, if_pos rfl]
          obtain ⟨v', hb⟩ := bad
          have hng : ¬ ((1 : Int32) = 1 ∧ (decide (48 ≤ T q ∧ T q ≤ 57) && allD T (r - (q + 1)) (q + 1)) = true) := fun h => absurd h.2 (by simp [hd])
          refine ⟨v', ?_, fun h => absurd h hng⟩
          rw [hb, if_neg hng]
theorem M_n134 (x2 : Int32) (v : Int64) (M : HS) : f_M_readNumber_b134 FU x2 v M = some (if x2 = 0 ∨ v < -2147483648 ∨ 2147483647 < v then sF (mwrong 1 (gF M 200 7) M) 200 9 v.toInt32 else sF M 200 9 v.toInt32) := by
  unfold f_M_readNumber_b134 f_M_readNumber_b155 f_M_readNumber_b164
  rw [lt_e]
  simp only [wrong_e, ob_s, lt_e, lg_cmp_lt, lg_cmp_le]
  by_cases h : x2 = 0
  · rw [if_pos h, if_pos (Or.inl h)]
  · rw [if_neg h]
    by_cases h2 : v < -2147483648
    · rw [if_pos h2, if_pos (Or.inr (Or.inl h2))]
    · rw [if_neg h2]
      by_cases h3 : v ≤ 2147483647
      · rw [if_pos h3, if_neg (fun q => q.elim h (fun q => q.elim h2 (fun q => absurd h3 (Int64.not_le.mpr q))))]
      · rw [if_neg h3, if_pos (Or.inr (Or.inr (Int64.not_le.mp h3)))]
theorem M_readNumber {T : Nat → Int32} {n j r : Nat} {M : HS} (hr : r ≤ n) (hn : n ≤ 4000) (hT : ∀ q, q < n → gF M 201 q = T q) (hat : gF M 200 5 = nI r) (hpl : gF M 200 7 = nI j) (hj : j < r) :
    ∃ (w : Int32), (numOK T j r → f_M_readNumber FU M = some (sF (sF M 200 6 3) 200 9 (nvl T j r))) ∧ (¬ numOK T j r → f_M_readNumber FU M = some (sF (mwrong 1 (nI j) (sF M 200 6 3)) 200 9 w)) := by
  have hc : (nI j).toNatClampNeg = j := cl_n (by omega)
  have e7 : gF (sF M 200 6 3) 200 7 = nI j := hpl
  have e5 : gF (sF M 200 6 3) 200 5 = nI r := hat
  have eT : gF (sF M 200 6 3) 201 j = T j := hT j (by omega)
  unfold f_M_readNumber
  rw [lt_e]
  simp only [e7, hc, eT]
  rw [gd_pos (in_n (by omega) (by omega))]
  have fin : ∀ (x1 : Int32) (f : Nat), nFrom T j = f → x1 = nI f → f ≤ r → ∃ w : Int32, (numOK T j r → f_M_readNumber_b32 FU x1 (sF M 200 6 3) = some (sF (sF M 200 6 3) 200 9 (nvl T j r))) ∧ (¬ numOK T j r → f_M_readNumber_b32 FU x1 (sF M 200 6 3) = some (sF (mwrong 1 (nI j) (sF M 200 6 3)) 200 9 w)) := by
    intro x1 f hF hx hfr
    subst hx
    unfold f_M_readNumber_b32
    rw [lt_e, e5]
    by_cases he : r ≤ f
    · rw [if_pos (nI_le he (by omega))]
      unfold f_M_readNumber_b46
      rw [lt_e, lt_e, lt_e]
      obtain ⟨v', h1, -⟩ := M_num_loop (T := T) (j := j) (nI f) hr hn FU f 0 0 0 (sF M 200 6 3) (Or.inl rfl) hT hat hpl (by omega) (fun h => absurd h (by decide)) (by show r - f < 10000; omega)
      rw [h1, if_neg (show ¬ ((0 : Int32) = 1 ∧ allD T (r - f) f = true) from fun h => absurd h.1 (by decide)), M_n134, M_n134, e7, if_pos (Or.inl rfl), if_pos (Or.inl rfl)]
      have hno : ¬ numOK T j r := fun h => by have := h.1; rw [hF] at this; omega
      split
      · exact ⟨_, fun h => absurd h hno, fun _ => rfl⟩
      · exact ⟨_, fun h => absurd h hno, fun _ => rfl⟩
    · rw [if_neg (nI_ge (by omega) (by omega))]
      unfold f_M_readNumber_b46
      rw [lt_e, lt_e, lt_e]
      obtain ⟨v', h1, h2⟩ := M_num_loop (T := T) (j := j) (nI f) hr hn FU f 0 1 0 (sF M 200 6 3) (Or.inr rfl) hT hat hpl (by omega) (fun _ => ⟨0, rfl, by decide, Or.inl rfl⟩) (by show r - f < 10000; omega)
      rw [h1]
      by_cases hD : allD T (r - f) f = true
      · rw [if_pos (show (1 : Int32) = 1 ∧ allD T (r - f) f = true from ⟨rfl, hD⟩), M_n134, M_n134, e7]
        obtain ⟨U, rfl, hU, hUV⟩ := h2 ⟨rfl, hD⟩
        have eV : vN T (r - f) f 0 = numV T j r := by unfold numV; rw [hF]
        rw [eV] at hUV
        have eI : (lN U).toInt = (U : Int) := pk_lT (by omega)
        have eN : (-(lN U)).toInt = -(U : Int) := Int64.toInt_neg_ofNat_of_le (by omega)
        have c1 : (2147483647 : Int64).toInt = 2147483647 := rfl
        have c2 : (-2147483648 : Int64).toInt = -2147483648 := rfl
        by_cases h45 : T j = 45
        · have hf : f = j + 1 := by rw [← hF]; exact if_pos h45
          rw [if_neg (show ¬ nI f ≤ nI j from by rw [hf]; exact nI_ge (by omega) (by omega))]
          have hN : numOK T j r ↔ numV T j r ≤ 2147483648 := by
            unfold numOK
            rw [hF, if_pos h45]
            exact ⟨fun h => h.2.2, fun h => ⟨by omega, hD, h⟩⟩
          refine ⟨(-(lN U)).toInt32, fun h => ?_, fun h => ?_⟩
          · have hV := hN.mp h
            have hUe : U = numV T j r := by omega
            rw [if_neg (by
              simp only [Int64.lt_iff_toInt_lt, eN, c1, c2]
              rintro (q | q | q)
              · exact absurd q (by decide)
              · omega
              · omega)]
            unfold nvl
            rw [if_pos h45, hUe]
          · have hV : ¬ numV T j r ≤ 2147483648 := fun q => h (hN.mpr q)
            rw [if_pos (by
              simp only [Int64.lt_iff_toInt_lt, eN, c1, c2]
              right; left; omega)]
        · have hf : f = j := by rw [← hF]; exact if_neg h45
          rw [if_pos (show nI f ≤ nI j from by rw [hf]; exact Int32.le_refl _)]
          have hN : numOK T j r ↔ numV T j r ≤ 2147483647 := by
            unfold numOK
            rw [hF, if_neg h45]
            exact ⟨fun h => h.2.2, fun h => ⟨by omega, hD, h⟩⟩
          refine ⟨(lN U).toInt32, fun h => ?_, fun h => ?_⟩
          · have hV := hN.mp h
            have hUe : U = numV T j r := by omega
            rw [if_neg (by
              simp only [Int64.lt_iff_toInt_lt, eI, c1, c2]
              rintro (q | q | q)
              · exact absurd q (by decide)
              · omega
              · omega)]
            unfold nvl
            rw [if_neg h45, hUe]
          · have hV : ¬ numV T j r ≤ 2147483647 := fun q => h (hN.mpr q)
            rw [if_pos (by
              simp only [Int64.lt_iff_toInt_lt, eI, c1, c2]
              right; right; omega)]
      · rw [if_neg (show ¬ ((1 : Int32) = 1 ∧ allD T (r - f) f = true) from fun h => hD h.2), M_n134, M_n134, e7, if_pos (Or.inl rfl), if_pos (Or.inl rfl)]
        have hno : ¬ numOK T j r := fun h => by have := h.2.1; rw [hF] at this; exact hD this
        split
        · exact ⟨_, fun h => absurd h hno, fun _ => rfl⟩
        · exact ⟨_, fun h => absurd h hno, fun _ => rfl⟩
  by_cases h45 : T j = 45
  · rw [if_pos h45, nI_1]
    exact fin _ (j + 1) (if_pos h45) rfl (by omega)
  · rw [if_neg h45]
    exact fin _ j (if_neg h45) rfl (by omega)
