-- definitions: what is left after a fault, on each side
def TF (C C' : HS) : Prop := (∀ i k, ¬ (6 ≤ i ∧ i < 198) → ¬ (i = 0 ∧ k = 4) → gF C' i k = gF C i k) ∧ (∀ i k, ¬ (6 ≤ i ∧ i < 198) → gL C' i k = gL C i k) ∧ (∀ i k, gX C' i k = gX C i k) ∧ C'.2.2.2 = C.2.2.2
theorem TF.rf {C : HS} : TF C C := ⟨fun _ _ _ _ => rfl, fun _ _ _ => rfl, fun _ _ => rfl, rfl⟩
theorem TF.tr {A B C : HS} (h : TF A B) (k : TF B C) : TF A C := ⟨fun i q a b => (k.1 i q a b).trans (h.1 i q a b), fun i q a => (k.2.1 i q a).trans (h.2.1 i q a), fun i q => (k.2.2.1 i q).trans (h.2.2.1 i q), k.2.2.2.trans h.2.2.2⟩
theorem TF.sF {C : HS} {i k : Nat} {v : Int32} (h : (6 ≤ i ∧ i < 198) ∨ (i = 0 ∧ k = 4)) : TF C (sF C i k v) := ⟨fun a b q1 q2 => by rw [rF, if_neg (by omega)], fun _ _ _ => rfl, fun _ _ => rfl, rfl⟩
theorem TF.sL {C : HS} {i k : Nat} {v : Int64} (h : 6 ≤ i ∧ i < 198) : TF C (sL C i k v) := ⟨fun _ _ _ _ => rfl, fun a b q1 => by rw [rL, if_neg (by omega)], fun _ _ => rfl, rfl⟩
theorem TF.cv {C C' : HS} {T : Nat → Int32} {n p : Nat} (h : TF C C') (hC : CV C T n p) : CV C' T n p := hC.cg (fun k => h.1 1 k (by omega) (by omega)) (fun k => h.1 2 k (by omega) (by omega)) (fun k => h.2.1 1 k (by omega)) (fun k => h.2.2.1 1 k)
theorem TF.pl {C C' : HS} {x g : Nat} (h : TF C C') (hP : PL C x g) : PL C' x g := hP.cg (fun k => h.2.2.1 3 k) (fun k => h.2.2.1 5 k) h.2.2.2
theorem TF.f7 {C C' : HS} (h : TF C C') : gF C' 0 7 = gF C 0 7 := h.1 0 7 (by omega) (by omega)
theorem TF.f8 {C C' : HS} (h : TF C C') : gF C' 0 8 = gF C 0 8 := h.1 0 8 (by omega) (by omega)
theorem C_b205F {C : HS} {T : Nat → Int32} {n p : Nat} (hC : CV C T n p) (h0 : ¬ gF C 0 7 = 0) : ∃ C', f_P_readDefinition_b205 FU C = some C' ∧ TF C C' := by
  unfold f_P_readDefinition_b205
  have e : f_P_pass FU 501 C = some C := C_passF (x := 1) hC (by decide) h0
  rw [e, ob_s, lt_e]
  exact ⟨_, rfl, TF.sF (Or.inr ⟨rfl, rfl⟩)⟩
theorem C_b182F {C : HS} {T : Nat → Int32} {n p h g d : Nat} {y : Int32} (hC : CV C T n p) (hP : PL C h g) (hd : d < 64) (h0 : ¬ gF C 0 7 = 0) : ∃ C', f_P_readDefinition_b182 FU (6 + 3 * d) y (6 + 3 * d) C = some C' ∧ TF C C' := by
  unfold f_P_readDefinition_b182
  have t1 : TF C (sF C (6 + 3 * d) 1 y) := TF.sF (Or.inl ⟨by omega, by omega⟩)
  rw [gdD hP hd _ _ rfl, lt_e, gdD (C := C) hP hd (sF C (6 + 3 * d) 1 y) _ rfl, lt_e]
  have t2 := t1.tr (TF.sF (k := 3) (v := gF (sF C (6 + 3 * d) 1 y) 0 2) (Or.inl ⟨show 6 ≤ 6 + 3 * d by omega, by omega⟩))
  have h1 : ¬ gF (sF (sF C (6 + 3 * d) 1 y) (6 + 3 * d) 3 (gF (sF C (6 + 3 * d) 1 y) 0 2)) 0 7 = 0 := by rw [t2.f7]; exact h0
  rw [if_neg h1]
  obtain ⟨C', e, t3⟩ := C_b205F (t2.cv hC) h1
  exact ⟨C', e, t2.tr t3⟩
theorem C_b155F {C : HS} {T : Nat → Int32} {n p h g d : Nat} (hC : CV C T n p) (hP : PL C h g) (hd : d < 64) (h0 : ¬ gF C 0 7 = 0) : ∃ C', f_P_readDefinition_b155 FU (6 + 3 * d) C = some C' ∧ TF C C' := by
  unfold f_P_readDefinition_b155
  have e : f_P_pass FU 501 C = some C := C_passF (x := 1) hC (by decide) h0
  rw [e, ob_s, if_neg h0]
  exact C_b182F hC hP hd h0
theorem C_b127F {C : HS} {T : Nat → Int32} {n p h g d : Nat} (k : Nat) (hC : CV C T n p) (hP : PL C h g) (hd : d < 64) (h0 : ¬ gF C 0 7 = 0) : ∃ C', f_P_readDefinition_b127 FU (k + 1) (6 + 3 * d) C = some C' ∧ TF C C' := by
  show ∃ C', f_P_readDefinition_b127B FU (f_P_readDefinition_b127 FU k) (6 + 3 * d) C = some C' ∧ _
  unfold f_P_readDefinition_b127B
  rw [if_neg h0]
  exact C_b155F hC hP hd h0
theorem C_b86F {C : HS} {T : Nat → Int32} {n p h g d : Nat} (hC : CV C T n p) (hP : PL C h g) (hd : d < 64) (h0 : ¬ gF C 0 7 = 0) : ∃ C', f_P_readDefinition_b86 FU (6 + 3 * d) C = some C' ∧ TF C C' := by
  unfold f_P_readDefinition_b86
  have t1 : TF C (sL C (6 + 3 * d) 4 (gL C 1 5)) := TF.sL ⟨by omega, by omega⟩
  have t2 := t1.tr (TF.sF (k := 5) (v := gF (sL C (6 + 3 * d) 4 (gL C 1 5)) 1 4) (Or.inl ⟨show 6 ≤ 6 + 3 * d by omega, by omega⟩))
  rw [gdD hP hd _ _ rfl, lt_e, gdD (C := C) hP hd (sL C (6 + 3 * d) 4 (gL C 1 5)) _ rfl, lt_e]
  generalize sF (sL C (6 + 3 * d) 4 (gL C 1 5)) (6 + 3 * d) 5 (gF (sL C (6 + 3 * d) 4 (gL C 1 5)) 1 4) = C2 at t2 ⊢
  have c2 := t2.cv hC
  have h2 : ¬ gF C2 0 7 = 0 := by rw [t2.f7]; exact h0
  have e1 : f_P_pass FU 502 C2 = some C2 := C_passF (x := 2) c2 (by decide) h2
  have e2 : f_P_pass FU 500 C2 = some C2 := C_passF (x := 0) c2 (by decide) h2
  rw [e1, ob_s, e2, ob_s, gdD (t2.pl hP) hd _ _ rfl, lt_e]
  have t3 := t2.tr (TF.sF (k := 2) (v := 0) (Or.inl ⟨show 6 ≤ 6 + 3 * d by omega, by omega⟩))
  obtain ⟨C', e, t4⟩ := C_b127F 9999 (t3.cv hC) (t3.pl hP) hd (by rw [t3.f7]; exact h0)
  exact ⟨C', e, t3.tr t4⟩
theorem C_b47F {C : HS} {T : Nat → Int32} {n p h g d : Nat} (hC : CV C T n p) (hP : PL C h g) (hd : d < 64) (h0 : ¬ gF C 0 7 = 0) : ∃ C', f_P_readDefinition_b47 FU (6 + 3 * d) C = some C' ∧ TF C C' := by
  unfold f_P_readDefinition_b47
  have e1 : f_P_pass FU 502 C = some C := C_passF (x := 2) hC (by decide) h0
  rw [e1, ob_s, if_neg h0]
  exact C_b86F hC hP hd h0
-- the model
def TM (M M' : HS) : Prop := (∀ i k, ¬ (211 ≤ i ∧ i ≤ 218) → ¬ (i = 200 ∧ (k = 10 ∨ k = 32)) → gF M' i k = gF M i k) ∧ (∀ i k, ¬ (211 ≤ i ∧ i ≤ 218) → gL M' i k = gL M i k) ∧ (∀ i k, gX M' i k = gX M i k) ∧ M'.2.2.2 = M.2.2.2
theorem TM.rf {M : HS} : TM M M := ⟨fun _ _ _ _ => rfl, fun _ _ _ => rfl, fun _ _ => rfl, rfl⟩
theorem TM.tr {A B C : HS} (h : TM A B) (k : TM B C) : TM A C := ⟨fun i q a b => (k.1 i q a b).trans (h.1 i q a b), fun i q a => (k.2.1 i q a).trans (h.2.1 i q a), fun i q => (k.2.2.1 i q).trans (h.2.2.1 i q), k.2.2.2.trans h.2.2.2⟩
theorem TM.sF {M : HS} {i k : Nat} {v : Int32} (h : (211 ≤ i ∧ i ≤ 218) ∨ (i = 200 ∧ (k = 10 ∨ k = 32))) : TM M (sF M i k v) := ⟨fun a b q1 q2 => by rw [rF, if_neg (by omega)], fun _ _ _ => rfl, fun _ _ => rfl, rfl⟩
theorem TM.sL {M : HS} {i k : Nat} {v : Int64} (h : 211 ≤ i ∧ i ≤ 218) : TM M (sL M i k v) := ⟨fun _ _ _ _ => rfl, fun a b q1 => by rw [rL, if_neg (by omega)], fun _ _ => rfl, rfl⟩
theorem TM.f3 {M M' : HS} (h : TM M M') : gF M' 200 3 = gF M 200 3 := h.1 200 3 (by omega) (by omega)
theorem TM.f4 {M M' : HS} (h : TM M M') : gF M' 200 4 = gF M 200 4 := h.1 200 4 (by omega) (by omega)
theorem M_b430F {M : HS} (h0 : ¬ gF M 200 3 = 0) : ∃ M', f_M_readDefinition_b430 FU M = some M' ∧ TM M M' := by
  unfold f_M_readDefinition_b430 f_M_readDefinition_b459
  rw [if_neg h0, lt_e]
  exact ⟨_, rfl, TM.sF (Or.inr ⟨rfl, Or.inl rfl⟩)⟩
theorem M_b385F {M : HS} {d : Nat} (hd : d < 64) (h0 : ¬ gF M 200 3 = 0) : ∃ M', f_M_readDefinition_b385 FU (nI d) M = some M' ∧ TM M M' := by
  unfold f_M_readDefinition_b385
  rw [gd_pos (in_n hd (by decide)), lt_e, gd_pos (in_n hd (by decide)), lt_e]
  have t1 : TM M (sF M 214 (nI d).toNatClampNeg (gF M 200 19)) := TM.sF (Or.inl ⟨by decide, by decide⟩)
  have t2 := t1.tr (TM.sF (i := 200) (k := 32) (v := gF (sF M 214 (nI d).toNatClampNeg (gF M 200 19)) 213 (nI d).toNatClampNeg) (Or.inr ⟨rfl, Or.inr rfl⟩))
  rw [if_neg (by rw [t2.f3]; exact h0)]
  obtain ⟨M', e, t3⟩ := M_b430F (by rw [t2.f3]; exact h0)
  exact ⟨M', e, t2.tr t3⟩
theorem M_b312F {M : HS} {d : Nat} (hd : d < 64) (h0 : ¬ gF M 200 3 = 0) : ∃ M', f_M_readDefinition_b312 FU (nI d) M = some M' ∧ TM M M' := by
  unfold f_M_readDefinition_b312
  rw [if_neg h0]
  exact M_b385F hd h0
theorem M_b240F {M : HS} {d : Nat} {x : Int32} (k : Nat) (hd : d < 64) (h0 : ¬ gF M 200 3 = 0) : ∃ M', f_M_readDefinition_b240 FU (k + 1) (nI d) x M = some M' ∧ TM M M' := by
  show ∃ M', f_M_readDefinition_b240B FU (f_M_readDefinition_b240 FU k) (nI d) x M = some M' ∧ _
  unfold f_M_readDefinition_b240B
  rw [if_neg h0, ite_self]
  exact M_b312F hd h0
theorem M_b179F {M : HS} {d : Nat} {y : Int32} (hd : d < 64) (h0 : ¬ gF M 200 3 = 0) : ∃ M', f_M_readDefinition_b179 FU (nI d) y M = some M' ∧ TM M M' := by
  unfold f_M_readDefinition_b179 f_M_readDefinition_b238
  rw [M_mustF h0, ob2_s, gd_pos (in_n hd (by decide)), lt_e, gd_pos (in_n hd (by decide)), lt_e, gd_pos (in_n hd (by decide)), lt_e]
  have t1 : TM M (sL M 216 (nI d).toNatClampNeg (gL M 200 8)) := TM.sL ⟨by decide, by decide⟩
  have t2 := t1.tr (TM.sF (i := 215) (k := (nI d).toNatClampNeg) (v := gF (sL M 216 (nI d).toNatClampNeg (gL M 200 8)) 200 7) (Or.inl ⟨by decide, by decide⟩))
  have t3 := t2.tr (TM.sF (i := 213) (k := (nI d).toNatClampNeg) (v := 0) (Or.inl ⟨by decide, by decide⟩))
  rw [if_neg (by rw [t3.f3]; exact h0), lt_e]
  obtain ⟨M', e, t4⟩ := M_b240F (x := 1) 9999 hd (by rw [t3.f3]; exact h0)
  exact ⟨M', e, t3.tr t4⟩
-- is it there already
def anyB (P : Nat → Bool) : Nat → Nat → Bool
  | 0, _ => false
  | f + 1, j => P j || anyB P f (j + 1)
theorem anyB_cg {P Q : Nat → Bool} : ∀ (f j : Nat), (∀ i, j ≤ i → i < j + f → P i = Q i) → anyB P f j = anyB Q f j
  | 0, _, _ => rfl
  | f + 1, j, h => by
    show (P j || anyB P f (j + 1)) = (Q j || anyB Q f (j + 1))
    rw [h j (by omega) (by omega), anyB_cg f (j + 1) (fun i h1 h2 => h i (by omega) (by omega))]
def b32 (b : Bool) : Int32 := if b = true then 1 else 0
theorem M_tw {M : HS} {d : Nat} (hd : d ≤ 64) : ∀ (k j : Nat) (b : Bool), j ≤ d → d - j < k → f_M_readDefinition_b120 FU k (nI d) (b32 b) (nI j) M = (if 0 < (gF M 200 3) then f_M_readDefinition_b174 FU (nI d) M else ob (f_M_isOwn FU M) fun r15 => (if r15 = 0 then f_M_readDefinition_b178 FU (nI d) M else (if b32 (b || anyB (fun i => decide (gL M 216 i = gL M 200 8)) (d - j) j) = 0 then f_M_readDefinition_b174 FU (nI d) M else f_M_readDefinition_b178 FU (nI d) M)))
  | 0, j, b, _, h => absurd h (by omega)
  | k + 1, j, b, hj, hk => by
    show f_M_readDefinition_b120B FU (f_M_readDefinition_b120 FU k) (nI d) (b32 b) (nI j) M = _
    unfold f_M_readDefinition_b120B
    by_cases e : j = d
    · rw [if_pos (by rw [e]; exact Int32.le_refl _), e, Nat.sub_self, show anyB (fun i => decide (gL M 216 i = gL M 200 8)) 0 d = false from rfl, Bool.or_false]
    · have hlt : j < d := by omega
      rw [if_neg (nI_ge hlt (by omega)), show d - j = (d - (j + 1)) + 1 by omega]
      have ea : anyB (fun i => decide (gL M 216 i = gL M 200 8)) (d - (j + 1) + 1) j = (decide (gL M 216 j = gL M 200 8) || anyB (fun i => decide (gL M 216 i = gL M 200 8)) (d - (j + 1)) (j + 1)) := rfl
      rw [ea]
      unfold f_M_readDefinition_b143 f_M_readDefinition_b148
      simp only [lt_e, nI_1]
      cases b with
      | false =>
        rw [if_pos (show b32 false = 0 from rfl), gd_pos (in_n (by omega) (by decide))]
        simp only [lg_cmp_eq, cl_n (show j < 2 ^ 31 by omega)]
        by_cases q : gL M 216 j = gL M 200 8
        · rw [if_pos q, show (1 : Int32) = b32 true from rfl, M_tw hd k (j + 1) true (by omega) (by omega), decide_eq_true q]
          simp only [Bool.true_or, Bool.false_or]
        · rw [if_neg q, show (0 : Int32) = b32 false from rfl, M_tw hd k (j + 1) false (by omega) (by omega), decide_eq_false q, Bool.false_or]
          rfl
      | true =>
        rw [if_neg (show ¬ b32 true = 0 by decide), show (1 : Int32) = b32 true from rfl, M_tw hd k (j + 1) true (by omega) (by omega), Bool.true_or, Bool.true_or]
theorem C_def {C : HS} {h g d : Nat} {w : Int64} (hP : PL C h g) (hd : d ≤ 64) (h4 : gF C 0 4 = nI d) : ∀ (k j : Nat) (b : Bool), j ≤ d → d - j < k → f_P_isDefined_b5 FU k w (b32 b) (nI j) C = some (b32 (b || anyB (fun i => decide (gL C (6 + 3 * i) 4 = w)) (d - j) j))
  | 0, j, b, _, hk => absurd hk (by omega)
  | k + 1, j, b, hj, hk => by
    show f_P_isDefined_b5B FU (f_P_isDefined_b5 FU k) w (b32 b) (nI j) C = _
    unfold f_P_isDefined_b5B
    rw [h4]
    by_cases e : j = d
    · rw [if_pos (by rw [e]; exact Int32.le_refl _), gd_pos (by cases b; exact Or.inl rfl; exact Or.inr rfl), e, Nat.sub_self, show anyB (fun i => decide (gL C (6 + 3 * i) 4 = w)) 0 d = false from rfl, Bool.or_false]
    · have hlt : j < d := by omega
      rw [if_neg (nI_ge hlt (by omega)), show d - j = (d - (j + 1)) + 1 by omega]
      have ea : anyB (fun i => decide (gL C (6 + 3 * i) 4 = w)) (d - (j + 1) + 1) j = (decide (gL C (6 + 3 * j) 4 = w) || anyB (fun i => decide (gL C (6 + 3 * i) 4 = w)) (d - (j + 1)) (j + 1)) := rfl
      rw [ea]
      unfold f_P_isDefined_b33 f_P_isDefined_b38
      simp only [lt_e, nI_1]
      cases b with
      | false =>
        rw [if_pos (show b32 false = 0 from rfl), gd_pos (in_n (by omega) (by decide)), cl_n (show j < 2 ^ 31 by omega), gdD hP (show j < 64 by omega) _ _ rfl]
        simp only [lg_cmp_eq]
        by_cases q : gL C (6 + 3 * j) 4 = w
        · rw [if_pos q, show (1 : Int32) = b32 true from rfl, C_def hP hd h4 k (j + 1) true (by omega) (by omega), decide_eq_true q]
          simp only [Bool.true_or, Bool.false_or]
        · rw [if_neg q, show (0 : Int32) = b32 false from rfl, C_def hP hd h4 k (j + 1) false (by omega) (by omega), decide_eq_false q]
          simp only [Bool.false_or]
      | true =>
        rw [if_neg (show ¬ b32 true = 0 by decide), show (1 : Int32) = b32 true from rfl, C_def hP hd h4 k (j + 1) true (by omega) (by omega), Bool.true_or, Bool.true_or]
