-- the names that an expression binds
theorem own2 {T : Nat → Int32} {n p : Nat} (q : mwF T n p = 1) : tkS T n p = 2 := by
  refine Decidable.byContradiction (fun z => ?_)
  rw [mwF_no z] at q
  exact absurd q (by decide)
theorem le24 {x : Nat} (h : x ≤ 24) : (nI x = 24 ↔ x = 24) ∧ ((24 : Int32) ≤ nI x ↔ x = 24) := by
  refine ⟨?_, ?_⟩
  · rw [show (24 : Int32) = nI 24 from rfl, nI_eq (by omega) (by decide)]
  · rw [show (24 : Int32) = nI 24 from rfl, nI_leI (by decide) (by omega)]
    omega
theorem M_bindN {M : HS} {T : Nat → Int32} {n p : Nat} (h : MT M T n p) (h0 : gF M 200 3 = 0) (h24 : (24 : Int32) ≤ gF M 200 32) : f_M_bind M = some (mfl M (tkS T n p) (sk T n p)) := by
  unfold f_M_bind f_M_bind_b15
  rw [if_pos h24, M_mustN h h0 (Or.inl rfl), ob2_s, if_pos rfl]
theorem M_bindY {M : HS} {T : Nat → Int32} {n p x : Nat} (h : MT M T n p) (h0 : gF M 200 3 = 0) (h4 : tkS T n p ≠ 4) (hx : gF M 200 32 = nI x) (h24 : x < 24) : f_M_bind M = some (sF M 200 32 (nI (x + 1))) := by
  unfold f_M_bind f_M_bind_b15
  rw [hx, if_neg (fun q => by have := ((le24 (by omega)).2).mp q; omega), M_mustY h h0 (by decide) h4, ob2_s, if_neg (by decide), hx, nI_1, lt_e]
theorem M_letN {M : HS} {T : Nat → Int32} {n p : Nat} {o : Int32} (h : MT M T n p) (h0 : gF M 200 3 = 0) (h24 : (24 : Int32) ≤ gF M 200 32) : f_M_letBinds o M = some (mfl M (tkS T n p) (sk T n p)) := by
  unfold f_M_letBinds f_M_letBinds_b15
  rw [if_pos h24, M_mustN h h0 (Or.inl rfl), ob2_s, if_pos rfl]
theorem M_letY {M : HS} {T : Nat → Int32} {n p x : Nat} {o : Int32} {l : List (Nat × Int32)} (h : MT M T n p) (h0 : gF M 200 3 = 0) (h4 : tkS T n p ≠ 4) (hx : gF M 200 32 = nI x) (h24 : x < 24) (hD : Due M l) (hd : gF M 200 31 = nI l.length) (hl : l.length < 32000) : ∃ M', f_M_letBinds o M = some M' ∧ Due M' ((1, o) :: (10, o) :: l) ∧ gF M' 200 31 = nI (l.length + 2) ∧ (∀ i k, i ≠ 229 → i ≠ 230 → ¬ (i = 200 ∧ k = 31) → gF M' i k = gF M i k) ∧ (∀ i k, gL M' i k = gL M i k) ∧ (∀ i k, gX M' i k = gX M i k) ∧ M'.2.2.2 = M.2.2.2 := by
  obtain ⟨M1, e1, d1, l1, f1, f2, f3, f4⟩ := M_push_e (w := 10) (o := o) hD hd (by omega) (by decide)
  obtain ⟨M2, e2, d2, l2, g1, g2, g3, g4⟩ := M_push_e (w := 1) (o := o) d1 l1 (by rw [List.length_cons]; omega) (by decide)
  refine ⟨M2, ?_, d2, ?_, fun i k a b c => (g1 i k a b c).trans (f1 i k a b c), fun i k => (g2 i k).trans (f2 i k), fun i k => (g3 i k).trans (f3 i k), g4.trans f4⟩
  · unfold f_M_letBinds f_M_letBinds_b15
    rw [hx, if_neg (fun q => by have := ((le24 (by omega)).2).mp q; omega), M_mustY h h0 (by decide) h4, ob2_s, if_neg (by decide), show (10 : Int32) = nI 10 from rfl, e1, ob_s]
    show (ob (f_M_push (nI 1) o M1) fun S4 => some S4) = _
    rw [e2, ob_s]
  · rw [l2, List.length_cons]
theorem FM.push {M M' : HS} (f1 : ∀ i k, i ≠ 229 → i ≠ 230 → ¬ (i = 200 ∧ k = 31) → gF M' i k = gF M i k) (f2 : ∀ i k, gL M' i k = gL M i k) (f3 : ∀ i k, gX M' i k = gX M i k) (f4 : M'.2.2.2 = M.2.2.2) : FM M M' := ⟨fun i k q => ⟨f1 i k (by omega) (by omega) (by omega), f2 i k⟩, fun k q => f1 200 k (by decide) (by decide) (by omega), f3, f4⟩
theorem rb_o {C M : HS} {a h g : Nat} {pr al pt : Nat → Nat} {k κ s : Nat} {fs : List (Nat × Nat × Nat)} {v0 : Nat} (R1 : RB C M a h g pr al pt ((k, κ, s) :: fs) v0) : gF C (1001 + 2 * fs.length) 0 = nI k ∧ gF C (1001 + 2 * fs.length) 2 = nI s ∧ gF C (1001 + 2 * fs.length) 3 = nI (thr v0 fs + dov κ s) ∧ gF C (1000 + 2 * k) 0 = nI κ := by
  have b := R1.2.2.2.2.2.2.2.2
  exact ⟨b.2.1, b.2.2.2.1, b.2.2.2.2.1, b.2.2.2.2.2.1⟩
/-- a variable is bound: the first, or the second -/
theorem C_varY {C : HS} {T : Nat → Int32} {n p h g k d ov : Nat} (hC : CV C T n p) (hP : PL C h g) (hd : d < g) (hk : k < h) (h4 : h ≤ 4200) (o0 : gF C (1001 + 2 * d) 0 = nI k) (o3 : gF C (1001 + 2 * d) 3 = nI ov) (hov : ov < 24) (hF : mwF T n p = 1) : ∃ C', f_P_variable FU (1001 + 2 * d) 0 C = some C' ∧ CV C' T n (tkE T n p) ∧ FrX (sF (setC1 C k (tkW T n p) (nI (sk T n p))) (1001 + 2 * d) 3 (nI (ov + 1))) C' := by
  have h2 := own2 hF
  have c2 : CV (sF (setC1 C k (tkW T n p) (nI (sk T n p))) (1001 + 2 * d) 3 (nI (ov + 1))) T n p := hC.s1.sO
  obtain ⟨C', e, c3, f⟩ := C_next c2
  refine ⟨C', ?_, c3, f⟩
  unfold f_P_variable f_P_variable_b36 f_P_variable_b101
  rw [gdO hP hd _ _ rfl, o0, gd_pos (in_n (by omega) (by decide)), cl_n (by omega), (hP.nd hk).1, ob_s, C_isName hC, ob_s, hF, if_neg (by decide), if_pos rfl, gdO hP hd _ _ rfl, o3, if_neg (fun q => by have := ((le24 (by omega)).1).mp q; omega), if_pos rfl, gdN hP hk _ _ rfl, lt_e, gdN (C := C) hP hk (sL C (1000 + 2 * k) 6 (gL C 1 5)) _ rfl, lt_e, rFL, hC.2.2.2.2.1, hC.2.2.2.2.2.2.2.1 h2]
  show (gd (kd (1001 + 2 * d) = 4 ∧ gD (setC1 C k (tkW T n p) (nI (sk T n p))) (1001 + 2 * d) = true) (gd (kd (1001 + 2 * d) = 4 ∧ gD (setC1 C k (tkW T n p) (nI (sk T n p))) (1001 + 2 * d) = true) (lt (sF (setC1 C k (tkW T n p) (nI (sk T n p))) (1001 + 2 * d) 3 ((gF (setC1 C k (tkW T n p) (nI (sk T n p))) (1001 + 2 * d) 3) + (1 : Int32))) fun S18 => ob (f_X_next FU S18) fun S19 => some S19))) = _
  rw [gdO (C := C) hP hd (setC1 C k (tkW T n p) (nI (sk T n p))) _ rfl, gdO (C := C) hP hd (setC1 C k (tkW T n p) (nI (sk T n p))) _ rfl, lt_e]
  have e3 : gF (setC1 C k (tkW T n p) (nI (sk T n p))) (1001 + 2 * d) 3 = nI ov := by unfold setC1; rw [rFi (by omega), rFL, o3]
  rw [e3, nI_1, e, ob_s]
theorem C_varZ {C : HS} {T : Nat → Int32} {n p h g k d ov : Nat} (hC : CV C T n p) (hP : PL C h g) (hd : d < g) (hk : k < h) (h4 : h ≤ 4200) (o0 : gF C (1001 + 2 * d) 0 = nI k) (o3 : gF C (1001 + 2 * d) 3 = nI ov) (hov : ov < 24) (hF : mwF T n p = 1) (hne : ¬ tkW T n p = gL C (1000 + 2 * k) 6) : ∃ C', f_P_variable FU (1001 + 2 * d) 1 C = some C' ∧ CV C' T n (tkE T n p) ∧ FrX (sF (setC2 C k (tkW T n p) (nI (sk T n p))) (1001 + 2 * d) 3 (nI (ov + 1))) C' := by
  have h2 := own2 hF
  have c2 : CV (sF (setC2 C k (tkW T n p) (nI (sk T n p))) (1001 + 2 * d) 3 (nI (ov + 1))) T n p := hC.s2.sO
  obtain ⟨C', e, c3, f⟩ := C_next c2
  refine ⟨C', ?_, c3, f⟩
  unfold f_P_variable f_P_variable_b36 f_P_variable_b101
  rw [gdO hP hd _ _ rfl, o0, gd_pos (in_n (by omega) (by decide)), cl_n (by omega), (hP.nd hk).1, ob_s, C_isName hC, ob_s, hF, if_neg (by decide), if_neg (by decide), gdN hP hk _ _ rfl, hC.2.2.2.2.2.2.2.1 h2, if_neg (fun q => hne ((lg_cmp_eq _ _).mp q)), gdO hP hd _ _ rfl, o3, if_neg (fun q => by have := ((le24 (by omega)).1).mp q; omega), if_neg (by decide), gdN hP hk _ _ rfl, lt_e, gdN (C := C) hP hk (sL C (1000 + 2 * k) 7 (tkW T n p)) _ rfl, lt_e, rFL, hC.2.2.2.2.1]
  show (gd (kd (1001 + 2 * d) = 4 ∧ gD (setC2 C k (tkW T n p) (nI (sk T n p))) (1001 + 2 * d) = true) (gd (kd (1001 + 2 * d) = 4 ∧ gD (setC2 C k (tkW T n p) (nI (sk T n p))) (1001 + 2 * d) = true) (lt (sF (setC2 C k (tkW T n p) (nI (sk T n p))) (1001 + 2 * d) 3 ((gF (setC2 C k (tkW T n p) (nI (sk T n p))) (1001 + 2 * d) 3) + (1 : Int32))) fun S18 => ob (f_X_next FU S18) fun S19 => some S19))) = _
  rw [gdO (C := C) hP hd (setC2 C k (tkW T n p) (nI (sk T n p))) _ rfl, gdO (C := C) hP hd (setC2 C k (tkW T n p) (nI (sk T n p))) _ rfl, lt_e]
  have e3 : gF (setC2 C k (tkW T n p) (nI (sk T n p))) (1001 + 2 * d) 3 = nI ov := by unfold setC2; rw [rFi (by omega), rFL, o3]
  rw [e3, nI_1, e, ob_s]
theorem C_varN {C : HS} {T : Nat → Int32} {n p h g k d ov : Nat} {x : Int32} (hC : CV C T n p) (hP : PL C h g) (hd : d < g) (hk : k < h) (h4 : h ≤ 4200) (o0 : gF C (1001 + 2 * d) 0 = nI k) (o3 : gF C (1001 + 2 * d) 3 = nI ov) (hov : ov ≤ 24) (hz : gF C 0 7 = 0) (hx : x = 0 ∨ x = 1) (hN : mwF T n p = 0 ∨ ov = 24 ∨ (x = 1 ∧ mwF T n p = 1 ∧ tkW T n p = gL C (1000 + 2 * k) 6)) : f_P_variable FU (1001 + 2 * d) x C = some (cfl C (tkS T n p) (sk T n p)) := by
  unfold f_P_variable f_P_variable_b45
  rw [gdO hP hd _ _ rfl, o0, gd_pos (in_n (by omega) (by decide)), cl_n (by omega), (hP.nd hk).1, ob_s, C_isName hC, ob_s, C_refuse hC hz, ob_s]
  rcases mwF_01 T n p with hF | hF
  · rw [hF, if_pos rfl]
  · rw [hF, if_neg (by decide)]
    have h2 := own2 hF
    have e36 : ov = 24 → f_P_variable_b36 FU (1001 + 2 * d) x (1000 + 2 * k) C = some (cfl C (tkS T n p) (sk T n p)) := fun q => by
      unfold f_P_variable_b36 f_P_variable_b45
      rw [gdO hP hd _ _ rfl, o3, if_pos (((le24 hov).1).mpr q), C_refuse hC hz, ob_s]
    rcases hN with q | q | ⟨q1, q2, q3⟩
    · rw [hF] at q; exact absurd q (by decide)
    · rcases hx with rfl | rfl
      · rw [if_pos rfl, e36 q]
      · rw [if_neg (by decide), gdN hP hk _ _ rfl, e36 q, ite_self]
    · subst q1
      rw [if_neg (by decide), gdN hP hk _ _ rfl, hC.2.2.2.2.2.2.2.1 h2, if_pos ((lg_cmp_eq _ _).mpr q3)]
