-- an expression that is not whole yet
theorem dr_dov (κ s : Nat) : dr κ s ≤ dov κ s := by
  unfold dr dov
  by_cases h1 : κ = 11 ∨ κ = 21
  · rw [if_pos h1, if_pos h1]
    repeat' split
    all_goals omega
  · rw [if_neg h1, if_neg h1]
    by_cases h2 : κ = 12 ∨ κ = 22
    · rw [if_pos h2, if_pos h2]
      repeat' split
      all_goals omega
    · rw [if_neg h2, if_neg h2]
      repeat' split
      all_goals omega
theorem sc_24 {C : HS} {a v0 : Nat} (h0 : v0 ≤ 24) : ∀ {fs : List (Nat × Nat × Nat)}, SC C a v0 fs → thr v0 fs ≤ 24
  | [], _ => h0
  | (k, κ, s) :: fs, h => by
    have h1 := h.2.2.2.2.2.2.2.1
    have h2 := dr_dov κ s
    exact Nat.le_trans (Nat.add_le_add_left h2 _) h1
def OP (C C' : HS) (a dp κ v : Nat) : Prop :=
  gF C' 0 6 = nI (dp + 1) ∧ (gF C' (1001 + 2 * dp) 0 = nI a ∧ gX C' (1001 + 2 * dp) 1 = some (fm κ) ∧ gF C' (1001 + 2 * dp) 2 = 0 ∧ gF C' (1001 + 2 * dp) 3 = nI v) ∧
  (∀ i k, i ≠ 1001 + 2 * dp → ¬ (i = 0 ∧ k = 6) → gF C' i k = gF C i k) ∧ (∀ i k, i ≠ 1001 + 2 * dp → gL C' i k = gL C i k) ∧ ∀ i k, i ≠ 5 → i ≠ 1001 + 2 * dp → gX C' i k = gX C i k
theorem C_b113 {C : HS} {h g a dp κ v : Nat} (hP : PL C h g) (hd : gF C 0 6 = nI dp) (hdg : dp < g) (hdp : dp < 4200) (ha : gF C 0 2 = nI (a + 1)) (hκ : κ < 24) : ∃ C', f_P_expression_b113 FU (nI v) (nI κ) C = some C' ∧ PL C' h g ∧ OP C C' a dp κ v := by
  obtain ⟨x1, x2⟩ := hP.op hdg
  have z0 : (0 : Nat) ≠ 1001 + 2 * dp := by omega
  unfold f_P_expression_b113
  rw [hd, gd_pos (in_n hdp (by decide)), cl_n (by omega), x1, ob_s, ha, nI_pred, (tb_fm κ hκ).1]
  simp only [lt_e, ob_s, gdO hP hdg, d3F, d3X, d3r, gd_pos (tb_fm κ hκ).2.1]
  refine ⟨_, rfl, ?_, ?_, ⟨?_, ?_, ?_, ?_⟩, fun i k h1 h2 => ?_, fun i k h1 => rfl, fun i k h1 h2 => ?_⟩
  · exact hP.cg (fun k => by simp only [rXF]; rw [rXi (by omega)]; rfl) (fun k => by simp only [rXF]; rw [rXi (by omega)]; rfl) rfl
  · rw [rFy, rFi z0, rFi z0, rFX, rFi z0, hd, nI_1]
  · rw [rFi (by omega), rFk (by decide), rFk (by decide), rFX, rFy]
  · simp only [rXF]; rw [rXy]
  · rw [rFi (by omega), rFk (by decide), rFy]
  · rw [rFi (by omega), rFy]
  · rw [rF, if_neg h2, rFi h1, rFi h1, rFX, rFi h1]
  · simp only [rXF]; rw [rXi h2]; rfl
theorem C_b83 {C : HS} {h g a dp κ v y : Nat} (hP : PL C h g) (hd : gF C 0 6 = nI dp) (hdg : dp ≤ g) (hdp : dp < 4200) (ha : gF C 0 2 = nI (a + 1)) (hκ : κ < 24) : ∃ C' g', f_P_expression_b83 FU (nI v) (nI κ) y C = some C' ∧ PL C' h g' ∧ dp < g' ∧ (g' = g ∨ g' = dp + 1) ∧ OP C C' a dp κ v := by
  unfold f_P_expression_b83
  rw [hd, gd_pos (in_n hdp (by decide)), cl_n (by omega), hP.2.2.1]
  by_cases e : dp < g
  · rw [if_pos e, if_neg (by simp)]
    obtain ⟨C', e1, e2, e3⟩ := C_b113 (v := v) hP hd e hdp ha hκ
    exact ⟨C', g, e1, e2, e, Or.inl rfl, e3⟩
  · have ea : dp = g := by omega
    subst ea
    rw [if_neg e, if_pos rfl, lt_e, gd_pos ⟨kdO dp, by rw [hP.2.2.2.1]; exact decide_eq_false e, by omega⟩, lt_e]
    unfold f_P_expression_b108
    rw [gd_pos (in_n hdp (by decide)), gd_pos ⟨kdO dp, by show (if 1001 + 2 * dp = 1001 + 2 * dp then true else _) = true; rw [if_pos rfl]⟩, lt_e, cl_n (by omega)]
    have fr : ∀ i k, i ≠ 1001 + 2 * dp → gF (sX (sN C (1001 + 2 * dp) 4) 5 dp (some (1001 + 2 * dp))) i k = gF C i k := fun i k hi => by
      show (if i = 1001 + 2 * dp then 0 else gF C i k) = _
      rw [if_neg hi]
    have frL : ∀ i k, i ≠ 1001 + 2 * dp → gL (sX (sN C (1001 + 2 * dp) 4) 5 dp (some (1001 + 2 * dp))) i k = gL C i k := fun i k hi => by
      show (if i = 1001 + 2 * dp then 0 else gL C i k) = _
      rw [if_neg hi]
    have frX : ∀ i k, i ≠ 5 → i ≠ 1001 + 2 * dp → gX (sX (sN C (1001 + 2 * dp) 4) 5 dp (some (1001 + 2 * dp))) i k = gX C i k := fun i k h3 hi => by
      rw [rXi h3]
      show (if i = 1001 + 2 * dp then none else gX C i k) = _
      rw [if_neg hi]
    obtain ⟨C', e1, e2, b1, b2, b3, b4, b5⟩ := C_b113 (a := a) (v := v) hP.newO ((fr 0 6 (by omega)).trans hd) (by omega) hdp ((fr 0 2 (by omega)).trans ha) hκ
    exact ⟨C', dp + 1, e1, e2, by omega, Or.inr rfl, b1, b2, fun i k g1 g2 => (b3 i k g1 g2).trans (fr i k g1), fun i k g1 => (b4 i k g1).trans (frL i k g1), fun i k g1 g2 => (b5 i k g1 g2).trans (frX i k g1 g2)⟩
theorem RB.opnd {C C' M M' : HS} {a h h' g g' po κ : Nat} {pr al pt : Nat → Nat} {fs : List (Nat × Nat × Nat)} {v0 : Nat} (hR : RB C M a h g pr al pt fs v0) (hpo : po = prO (fs.map Prod.fst)) (hP : PL C' h' g') (hh : a < h') (hg : fs.length < g') (c02 : gF C' 0 2 = nI (a + 1)) (m19 : gF M' 200 19 = nI (a + 1)) (na : NQ C' M' a) (t4 : gF C' (1000 + 2 * a) 4 = pI po) (t2 : gF C' (1000 + 2 * a) 2 = 1) (t1 : gF C' (1000 + 2 * a) 1 = 0)
    (hF : ∀ j k, j < a → ¬ (j + 1 = po ∧ k = 1) → gF C' (1000 + 2 * j) k = gF C (1000 + 2 * j) k) (hL : ∀ j k, j < a → gL C' (1000 + 2 * j) k = gL C (1000 + 2 * j) k) (hp : 0 < po → gF C' (998 + 2 * po) 1 = gF C (998 + 2 * po) 1 + 1) (hM : ∀ i j, 220 ≤ i → i ≤ 226 → j < a → gF M' i j = gF M i j) (hK : ∀ i j, 227 ≤ i → i ≤ 228 → j < a → gL M' i j = gL M i j)
    (c06 : gF C' 0 6 = nI (fs.length + 1)) (o0 : gF C' (1001 + 2 * fs.length) 0 = nI a) (o1 : gX C' (1001 + 2 * fs.length) 1 = some (fm κ)) (o2 : gF C' (1001 + 2 * fs.length) 2 = 0) (o3 : gF C' (1001 + 2 * fs.length) 3 = nI (thr v0 fs)) (n0 : gF C' (1000 + 2 * a) 0 = nI κ) (n5 : gF C' (1000 + 2 * a) 5 = nI (thr v0 fs)) (hO : ∀ i k, i < fs.length → gF C' (1001 + 2 * i) k = gF C (1001 + 2 * i) k ∧ gX C' (1001 + 2 * i) k = gX C (1001 + 2 * i) k) (hκ : 3 ≤ κ ∧ κ < 24) :
    RB C' M' (a + 1) h' g' (fun j => if j = a then po else pr j) (fun j => if j = a then 1 else al j) (fun j => if j = a then 0 else if j + 1 = po then pt j + 1 else pt j) ((a, κ, 0) :: fs) v0 := by
  obtain ⟨r1, r2, r3, r4, r5, r6, r7, r8, r9⟩ := hR
  obtain ⟨w1, w2⟩ := NEW (C' := C') (M' := M') r5 r6 na t4 t2 t1 hF hL hp hM hK
  have ht := sc_24 r2.2.2.2 r9
  obtain ⟨z1, z2, z3⟩ := tb_0 κ hκ.2 hκ.1
  refine ⟨hP, ⟨by omega, hg, by show fs.length + 1 ≤ a + 1; omega, r2.2.2.2⟩, c02, m19, w1, w2, ?_, c06, ⟨hκ.1, hκ.2, z3, by omega⟩, o0, o1, o2, ?_, n0, n5, ?_, r9.cg (by omega) hO (fun j hj => ⟨hF j 0 hj (by omega), hF j 5 hj (by omega)⟩)⟩
  · refine r7.opn (fun j hj => ?_) ?_ (fun j hj => ?_) (fun j hj => ?_) ?_
    · show (if j = a then _ else _) = _; rw [if_neg (by omega)]
    · show (if a = a then _ else _) = _; rw [if_pos rfl, hpo]
    · show (if j = a then _ else _) = _; rw [if_neg (by omega)]
    · show (if j = a then _ else _) = _; rw [if_neg (by omega), hpo]
    · show (if a = a then _ else _) = _; rw [if_pos rfl]
  · rw [z2, Nat.add_zero]; exact o3
  · rw [z2, Nat.add_zero]; exact ht
