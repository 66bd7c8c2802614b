-- a new node on both sides
theorem rFi {S : HS} {i k : Nat} {v : Int32} {j l : Nat} (h : j ≠ i) : gF (sF S i k v) j l = gF S j l := by rw [rF, if_neg (fun q => h q.1)]
theorem rLi {S : HS} {i k : Nat} {v : Int64} {j l : Nat} (h : j ≠ i) : gL (sL S i k v) j l = gL S j l := by rw [rL, if_neg (fun q => h q.1)]
theorem rXi {S : HS} {i k : Nat} {v : Option Nat} {j l : Nat} (h : j ≠ i) : gX (sX S i k v) j l = gX S j l := by rw [rX, if_neg (fun q => h q.1)]
theorem rFk {S : HS} {i k : Nat} {v : Int32} {j l : Nat} (h : l ≠ k) : gF (sF S i k v) j l = gF S j l := by rw [rF, if_neg (fun q => h q.2)]
theorem rFy {S : HS} {i k : Nat} {v : Int32} : gF (sF S i k v) i k = v := by rw [rF, if_pos ⟨rfl, rfl⟩]
theorem rLk {S : HS} {i k : Nat} {v : Int64} {j l : Nat} (h : l ≠ k) : gL (sL S i k v) j l = gL S j l := by rw [rL, if_neg (fun q => h q.2)]
theorem rLy {S : HS} {i k : Nat} {v : Int64} : gL (sL S i k v) i k = v := by rw [rL, if_pos ⟨rfl, rfl⟩]
theorem rXy {S : HS} {i k : Nat} {v : Option Nat} : gX (sX S i k v) i k = v := by rw [rX, if_pos ⟨rfl, rfl⟩]
theorem kdN (k : Nat) : kd (1000 + 2 * k) = 3 := by
  unfold kd
  rw [if_neg (by omega), if_neg (by omega), if_neg (by omega), if_neg (by omega), if_pos (by omega)]
theorem kdO (k : Nat) : kd (1001 + 2 * k) = 4 := by
  unfold kd
  rw [if_neg (by omega), if_neg (by omega), if_neg (by omega), if_neg (by omega), if_neg (by omega)]
theorem PL.nd {C : HS} {h g j : Nat} (hP : PL C h g) (hj : j < h) : gX C 3 j = some (1000 + 2 * j) ∧ (kd (1000 + 2 * j) = 3 ∧ gD C (1000 + 2 * j) = true) := ⟨by rw [hP.1, if_pos hj], kdN j, by rw [hP.2.1]; exact decide_eq_true hj⟩
theorem PL.op {C : HS} {h g j : Nat} (hP : PL C h g) (hj : j < g) : gX C 5 j = some (1001 + 2 * j) ∧ (kd (1001 + 2 * j) = 4 ∧ gD C (1001 + 2 * j) = true) := ⟨by rw [hP.2.2.1, if_pos hj], kdO j, by rw [hP.2.2.2.1]; exact decide_eq_true hj⟩
def SD (C S : HS) : Prop := S.2.2.2 = C.2.2.2
theorem d3F (C S : HS) (i k : Nat) (v : Int32) : SD C (sF S i k v) = SD C S := propext ⟨id, id⟩
theorem d3L (C S : HS) (i k : Nat) (v : Int64) : SD C (sL S i k v) = SD C S := propext ⟨id, id⟩
theorem d3X (C S : HS) (i k : Nat) (v : Option Nat) : SD C (sX S i k v) = SD C S := propext ⟨id, id⟩
theorem d3r (C : HS) : SD C C = True := eq_true rfl
theorem gdN {α : Type} {C : HS} {h g a : Nat} (hP : PL C h g) (ha : a < h) (S : HS) (x : Option α) (hS : SD C S) : gd (kd (1000 + 2 * a) = 3 ∧ gD S (1000 + 2 * a) = true) x = x := gd_pos ⟨kdN a, by unfold gD; rw [show S.2.2.2 = C.2.2.2 from hS]; exact (hP.nd ha).2.2⟩ x
theorem gdO {α : Type} {C : HS} {h g a : Nat} (hP : PL C h g) (ha : a < g) (S : HS) (x : Option α) (hS : SD C S) : gd (kd (1001 + 2 * a) = 4 ∧ gD S (1001 + 2 * a) = true) x = x := gd_pos ⟨kdO a, by unfold gD; rw [show S.2.2.2 = C.2.2.2 from hS]; exact (hP.op ha).2.2⟩ x
theorem gdD {α : Type} {C : HS} {h g a : Nat} (hP : PL C h g) (ha : a < 64) (S : HS) (x : Option α) (hS : SD C S) : gd (kd (6 + 3 * a) = 2 ∧ gD S (6 + 3 * a) = true) x = x := gd_pos ⟨by unfold kd; rw [if_neg (by omega), if_pos (by omega), show (6 + 3 * a - 6) % 3 = 0 by omega]; rfl, by unfold gD; rw [show S.2.2.2 = C.2.2.2 from hS]; exact hP.2.2.2.2.1 _ (by omega)⟩ x
theorem PL.newN {C : HS} {h g : Nat} (hP : PL C h g) : PL (sX (sN C (1000 + 2 * h) 11) 3 h (some (1000 + 2 * h))) (h + 1) g := by
  obtain ⟨a, b, c, d, e, f1, f2⟩ := hP
  refine ⟨fun k => ?_, fun k => ?_, fun k => ?_, fun k => ?_, fun i hi => ?_, ?_, ?_⟩
  · rw [rX]
    by_cases hk : k = h
    · rw [if_pos ⟨rfl, hk⟩, if_pos (by omega), hk]
    · rw [if_neg (fun q => hk q.2)]
      show (if 3 = 1000 + 2 * h then none else gX C 3 k) = _
      rw [if_neg (by omega), a k]
      by_cases h2 : k < h
      · rw [if_pos h2, if_pos (by omega)]
      · rw [if_neg h2, if_neg (by omega)]
  · show (if 1000 + 2 * k = 1000 + 2 * h then true else gD C (1000 + 2 * k)) = _
    by_cases hk : k = h
    · rw [if_pos (by omega), hk]
      exact (decide_eq_true (Nat.lt_succ_self h)).symm
    · rw [if_neg (by omega), b k]
      exact decide_eq_decide.mpr (by omega)
  · rw [rXi (by decide)]
    show (if 5 = 1000 + 2 * h then none else gX C 5 k) = _
    rw [if_neg (by omega), c k]
  · show (if 1001 + 2 * k = 1000 + 2 * h then true else gD C (1001 + 2 * k)) = _
    rw [if_neg (by omega), d k]
  · show (if i = 1000 + 2 * h then true else gD C i) = _
    rw [if_neg (by omega), e i hi]
  · show gC C + 1 ≤ _
    omega
  · show gN C + 11 ≤ _
    omega
theorem PL.newO {C : HS} {h g : Nat} (hP : PL C h g) : PL (sX (sN C (1001 + 2 * g) 4) 5 g (some (1001 + 2 * g))) h (g + 1) := by
  obtain ⟨a, b, c, d, e, f1, f2⟩ := hP
  refine ⟨fun k => ?_, fun k => ?_, fun k => ?_, fun k => ?_, fun i hi => ?_, ?_, ?_⟩
  · rw [rXi (by decide)]
    show (if 3 = 1001 + 2 * g then none else gX C 3 k) = _
    rw [if_neg (by omega), a k]
  · show (if 1000 + 2 * k = 1001 + 2 * g then true else gD C (1000 + 2 * k)) = _
    rw [if_neg (by omega), b k]
  · rw [rX]
    by_cases hk : k = g
    · rw [if_pos ⟨rfl, hk⟩, if_pos (by omega), hk]
    · rw [if_neg (fun q => hk q.2)]
      show (if 5 = 1001 + 2 * g then none else gX C 5 k) = _
      rw [if_neg (by omega), c k]
      by_cases h2 : k < g
      · rw [if_pos h2, if_pos (by omega)]
      · rw [if_neg h2, if_neg (by omega)]
  · show (if 1001 + 2 * k = 1001 + 2 * g then true else gD C (1001 + 2 * k)) = _
    by_cases hk : k = g
    · rw [if_pos (by omega), hk]
      exact (decide_eq_true (Nat.lt_succ_self g)).symm
    · rw [if_neg (by omega), d k]
      exact decide_eq_decide.mpr (by omega)
  · show (if i = 1001 + 2 * g then true else gD C i) = _
    rw [if_neg (by omega), e i hi]
  · show gC C + 1 ≤ _
    omega
  · show gN C + 4 ≤ _
    omega
/-- what a new node changes in the component; po is its parent and one -/
def BG (C C' : HS) (a po : Nat) (κ pl v : Int32) : Prop :=
  gF C' 0 2 = nI (a + 1) ∧
  (gF C' (1000 + 2 * a) 0 = κ ∧ gF C' (1000 + 2 * a) 1 = 0 ∧ gF C' (1000 + 2 * a) 2 = 1 ∧ gF C' (1000 + 2 * a) 3 = pl ∧ gF C' (1000 + 2 * a) 4 = pI po ∧ gF C' (1000 + 2 * a) 5 = v ∧ gF C' (1000 + 2 * a) 8 = -1 ∧ gF C' (1000 + 2 * a) 9 = -1 ∧ gF C' (1000 + 2 * a) 10 = 0 ∧ gL C' (1000 + 2 * a) 6 = 0 ∧ gL C' (1000 + 2 * a) 7 = 0) ∧
  (∀ i k, i ≠ 1000 + 2 * a → ¬ (i = 0 ∧ k = 2) → ¬ (0 < po ∧ i = 998 + 2 * po ∧ k = 1) → gF C' i k = gF C i k) ∧
  (0 < po → gF C' (998 + 2 * po) 1 = gF C (998 + 2 * po) 1 + 1) ∧
  (∀ i k, i ≠ 1000 + 2 * a → gL C' i k = gL C i k) ∧ ∀ i k, i ≠ 3 → i ≠ 1000 + 2 * a → gX C' i k = gX C i k
theorem P_b28 {C : HS} {h g a dp po : Nat} {κ pl v : Int32} (hP : PL C h g) (ha : gF C 0 2 = nI a) (hah : a < h) (h4 : h ≤ 4200) (hd : gF C 0 6 = nI dp) (hdp : dp ≤ 4200) (ho : (dp = 0 ∧ po = 0) ∨ (∃ d q, dp = d + 1 ∧ po = q + 1 ∧ d < g ∧ gF C (1001 + 2 * d) 0 = nI q ∧ q < a)) :
    ∃ C', f_P_begin_b28 κ pl v C = some (1000 + 2 * a, C') ∧ PL C' h g ∧ BG C C' a po κ pl v := by
  obtain ⟨x1, x2⟩ := hP.nd hah
  have z0 : (0 : Nat) ≠ 1000 + 2 * a := by omega
  unfold f_P_begin_b28
  rw [ha, gd_pos (in_n (by omega) (by decide)), cl_n (by omega), x1, ob_s]
  rcases ho with ⟨rfl, rfl⟩ | ⟨d, q, rfl, rfl, hdg, hq, hqa⟩
  · simp only [lt_e, d3F, d3L, d3r, gdN hP hah, rFi z0, hd, if_pos (show nI 0 = (0 : Int32) from rfl)]
    unfold f_P_begin_b96 f_P_begin_b155
    simp only [lt_e, d3F, d3L, d3r, gdN hP hah, rFi z0, rFL, hd, if_pos (show nI 0 ≤ (0 : Int32) by decide)]
    refine ⟨_, rfl, hP, ?_, ⟨?_, ?_, ?_, ?_, ?_, ?_, ?_, ?_, ?_, ?_, ?_⟩, fun i k g1 g2 _ => ?_, fun q => absurd q (by decide), fun i k g1 => ?_, fun i k _ _ => rfl⟩
    · rw [rFy, ha, nI_1]
    all_goals try (simp [rF, rL, rFL, rLF]; done)
    · simp only [rF, rFL, rLF, rL]
      simp
      rfl
    · rw [rF, if_neg g2]
      simp only [rFi g1, rFL]
    · simp only [rLF, rLi g1]
  · have zq : ¬ (1000 + 2 * q = 1000 + 2 * a) := by omega
    obtain ⟨y1, y2⟩ := hP.nd (show q < h by omega)
    obtain ⟨w1, w2⟩ := hP.op hdg
    have zd : (1001 + 2 * d) ≠ 1000 + 2 * a := by omega
    have n0 : ¬ nI (d + 1) = 0 := nI_ne0 (by omega) (by omega)
    have n1 : ¬ nI (d + 1) ≤ 0 := nI_nle (by omega) (by omega)
    simp only [lt_e, d3F, d3L, d3r, gdN hP hah, rFi z0, hd, if_neg n0, nI_pred, gd_pos (in_n (show d < 4200 by omega) (by decide)), cl_n (show d < 2 ^ 31 by omega), rXF, w1, ob_s, gdO hP hdg, rFi zd, hq]
    unfold f_P_begin_b96 f_P_begin_b155
    simp only [lt_e, d3F, d3L, d3r, gdN hP hah, rFi z0, rFL, hd, rXF, rXL, if_neg n1]
    have e4 : ∀ (S : HS) (x : Int64) (y : Int64) (b c d : Int32), gF (sF (sF (sF (sL (sL (sF S (1000 + 2 * a) 4 (nI q)) (1000 + 2 * a) 6 x) (1000 + 2 * a) 7 y) (1000 + 2 * a) 8 b) (1000 + 2 * a) 9 c) (1000 + 2 * a) 10 d) (1000 + 2 * a) 4 = nI q := by
      intros
      simp [rF, rFL]
    simp only [e4, gd_pos (in_n (show q < 4200 by omega) (by decide)), cl_n (show q < 2 ^ 31 by omega), y1, ob_s, gdN hP (show q < h by omega), d3F, d3L, d3r, lt_e]
    refine ⟨_, rfl, hP, ?_, ⟨?_, ?_, ?_, ?_, ?_, ?_, ?_, ?_, ?_, ?_, ?_⟩, fun i k g1 g2 g3 => ?_, fun _ => ?_, fun i k g1 => ?_, fun i k _ _ => rfl⟩
    · rw [rFy, rFi (show (0 : Nat) ≠ 1000 + 2 * q by omega)]
      simp only [rFi z0, rFL, ha, nI_1]
    · simp [rF, rL, rFL, rLF]
    · rw [rFi (by omega), rFi (by omega)]; simp [rF, rFL]
    · simp [rF, rL, rFL, rLF]
    · simp [rF, rL, rFL, rLF]
    · rw [rFi (by omega), rFi (by omega), e4, pI_s]
    · simp [rF, rL, rFL, rLF]
    · simp [rF, rL, rFL, rLF]
    · simp [rF, rL, rFL, rLF]
    · simp [rF, rL, rFL, rLF]
    · simp [rF, rL, rFL, rLF]
    · simp [rF, rL, rFL, rLF]
    · rw [rF, if_neg g2, rF, if_neg (fun z => g3 ⟨by omega, by omega, z.2⟩)]
      simp only [rFi g1, rFL]
    · rw [show 998 + 2 * (q + 1) = 1000 + 2 * q by omega, rFi (by omega), rFy]
      simp only [rFi zq, rFL]
    · simp only [rLF, rLi g1]
theorem P_begin_e {C : HS} {h g a dp po : Nat} {κ pl v : Int32} (hP : PL C h g) (ha : gF C 0 2 = nI a) (hah : a ≤ h) (h4 : h < 4200) (hd : gF C 0 6 = nI dp) (hdp : dp ≤ 4200) (ho : (dp = 0 ∧ po = 0) ∨ (∃ d q, dp = d + 1 ∧ po = q + 1 ∧ d < g ∧ gF C (1001 + 2 * d) 0 = nI q ∧ q < a)) :
    ∃ C' h', f_P_begin κ pl v C = some (1000 + 2 * a, C') ∧ PL C' h' g ∧ a < h' ∧ (h' = h ∨ h' = a + 1) ∧ BG C C' a po κ pl v := by
  unfold f_P_begin
  rw [ha, gd_pos (in_n (by omega) (by decide)), cl_n (by omega), hP.1]
  by_cases e : a < h
  · rw [if_pos e, if_neg (by simp)]
    obtain ⟨C', e1, e2, e3⟩ := P_b28 (κ := κ) (pl := pl) (v := v) hP ha e (by omega) hd hdp ho
    exact ⟨C', h, e1, e2, e, Or.inl rfl, e3⟩
  · have ea : a = h := by omega
    subst ea
    rw [if_neg e, if_pos rfl, lt_e, gd_pos ⟨kdN a, by rw [hP.2.1]; exact decide_eq_false e, by omega⟩, lt_e]
    unfold f_P_begin_b23
    rw [gd_pos (in_n (by omega) (by decide)), gd_pos ⟨kdN a, by show (if 1000 + 2 * a = 1000 + 2 * a then true else _) = true; rw [if_pos rfl]⟩, lt_e, cl_n (by omega)]
    have hP' := hP.newN
    have fr : ∀ i k, i ≠ 1000 + 2 * a → gF (sX (sN C (1000 + 2 * a) 11) 3 a (some (1000 + 2 * a))) i k = gF C i k := fun i k hi => by
      show (if i = 1000 + 2 * a then 0 else gF C i k) = _
      rw [if_neg hi]
    have frL : ∀ i k, i ≠ 1000 + 2 * a → gL (sX (sN C (1000 + 2 * a) 11) 3 a (some (1000 + 2 * a))) i k = gL C i k := fun i k hi => by
      show (if i = 1000 + 2 * a then 0 else gL C i k) = _
      rw [if_neg hi]
    have frX : ∀ i k, i ≠ 3 → i ≠ 1000 + 2 * a → gX (sX (sN C (1000 + 2 * a) 11) 3 a (some (1000 + 2 * a))) i k = gX C i k := fun i k h3 hi => by
      rw [rXi h3]
      show (if i = 1000 + 2 * a then none else gX C i k) = _
      rw [if_neg hi]
    obtain ⟨C', e1, e2, b1, b2, b3, b4, b5, b6⟩ := P_b28 (κ := κ) (pl := pl) (v := v) (po := po) (dp := dp) hP' ((fr 0 2 (by omega)).trans ha) (by omega) (by omega) ((fr 0 6 (by omega)).trans hd) hdp (by
      rcases ho with h | ⟨d, q, h1, h2, h3, h4, h5⟩
      · exact Or.inl h
      · exact Or.inr ⟨d, q, h1, h2, h3, (fr _ _ (by omega)).trans h4, h5⟩)
    have hpo : po ≤ a := by
      rcases ho with h | ⟨d, q, h1, h2, h3, h4, h5⟩ <;> omega
    refine ⟨C', a + 1, e1, e2, by omega, Or.inr rfl, b1, b2, fun i k g1 g2 g3 => (b3 i k g1 g2 g3).trans (fr i k g1), fun q => ?_, fun i k g1 => (b5 i k g1).trans (frL i k g1), fun i k g1 g2 => (b6 i k g1 g2).trans (frX i k g1 g2)⟩
    rw [b4 q, fr _ _ (by omega)]
-- the model
def MK (M M' : HS) (a : Nat) (κ o : Int32) : Prop :=
  gF M' 200 19 = nI (a + 1) ∧ (gF M' 220 a = κ ∧ gF M' 221 a = o ∧ gF M' 222 a = gF M 200 7 ∧ gF M' 223 a = -1 ∧ gF M' 224 a = -1 ∧ gF M' 226 a = 0 ∧ gF M' 225 a = gF M 200 32 ∧ gL M' 227 a = 0 ∧ gL M' 228 a = 0) ∧
  (∀ i k, ¬ (220 ≤ i ∧ i ≤ 226 ∧ k = a) → ¬ (i = 200 ∧ k = 19) → gF M' i k = gF M i k) ∧ (∀ i k, ¬ (227 ≤ i ∧ i ≤ 228 ∧ k = a) → gL M' i k = gL M i k) ∧ (∀ i k, gX M' i k = gX M i k) ∧ M'.2.2.2 = M.2.2.2
theorem M_make {M : HS} {a : Nat} {κ o : Int32} (h : gF M 200 19 = nI a) (ha : a < 8192) : ∃ M', f_M_make κ o M = some (nI a, M') ∧ MK M M' a κ o := by
  unfold f_M_make
  rw [h]
  simp only [lt_e, cl_n (show a < 2 ^ 31 by omega), gd_pos (in_n ha (by decide))]
  refine ⟨_, rfl, ?_, ⟨?_, ?_, ?_, ?_, ?_, ?_, ?_, ?_, ?_⟩, fun i k h1 h2 => ?_, fun i k h1 => ?_, fun _ _ => rfl, rfl⟩
  · simp only [rFL, nI_1]
    simp [rF, rFL]
  all_goals try (simp [rF, rL, rFL, rLF]; done)
  · rw [rF, if_neg (by omega), rF, if_neg (by omega), rFL, rFL, rF, if_neg (by omega), rF, if_neg (by omega), rF, if_neg (by omega), rF, if_neg (by omega), rF, if_neg (by omega), rF, if_neg h2]
  · simp only [rLF]
    rw [rL, if_neg (by omega), rL, if_neg (by omega), rLF, rLF, rLF, rLF, rLF, rLF]
theorem M_push_e {M : HS} {l : List (Nat × Int32)} {w : Nat} {o : Int32} (hD : Due M l) (hd : gF M 200 31 = nI l.length) (hl : l.length < 33000) (hw : w < 128) : ∃ M', f_M_push (nI w) o M = some M' ∧ Due M' ((w, o) :: l) ∧ gF M' 200 31 = nI (l.length + 1) ∧ (∀ i k, i ≠ 229 → i ≠ 230 → ¬ (i = 200 ∧ k = 31) → gF M' i k = gF M i k) ∧ (∀ i k, gL M' i k = gL M i k) ∧ (∀ i k, gX M' i k = gX M i k) ∧ M'.2.2.2 = M.2.2.2 := by
  have hw8 : ((nI w).toInt8.toInt32).toInt8.toInt32 = nI w := by
    have : ∀ w, w < 128 → ((nI w).toInt8.toInt32).toInt8.toInt32 = nI w := by decide +kernel
    exact this w hw
  unfold f_M_push
  rw [hw8]
  simp only [lt_e]
  rw [rFi (show (200 : Nat) ≠ 229 by decide), hd, gd_pos (in_n hl (by decide)), gd_pos (in_n hl (by decide)), cl_n (by omega), rFi (show (200 : Nat) ≠ 230 by decide), rFi (show (200 : Nat) ≠ 229 by decide), hd, nI_1]
  refine ⟨_, rfl, ⟨?_, ?_, hD.cg (fun k hk => ⟨?_, ?_⟩)⟩, rFy, fun i k h1 h2 h3 => ?_, fun _ _ => rfl, fun _ _ => rfl, rfl⟩
  · rw [rFi (by decide), rFi (by decide), rFy]
  · rw [rFi (by decide), rFy]
  · rw [rFi (by decide), rFi (by decide), rFk (by omega)]
  · rw [rFi (by decide), rFk (by omega), rFi (by decide)]
  · rw [rF, if_neg h3, rFi h2, rFi h1]
