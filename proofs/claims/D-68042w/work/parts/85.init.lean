-- THE CONSTRUCTORS
theorem kdE {a : Nat} (ha : a < 64) : kd (6 + 3 * a) = 2 ∧ (kd (6 + 3 * a + 1) = 12 ∧ ln (6 + 3 * a + 1) = 8) ∧ (kd (6 + 3 * a + 2) = 11 ∧ ln (6 + 3 * a + 2) = 8) := by
  refine ⟨?_, ⟨?_, ?_⟩, ?_, ?_⟩
  · unfold kd; rw [if_neg (by omega), if_pos (by omega), show (6 + 3 * a - 6) % 3 = 0 by omega]; rfl
  · unfold kd; rw [if_neg (by omega), if_pos (by omega), show (6 + 3 * a + 1 - 6) % 3 = 1 by omega]; rfl
  · unfold ln; rw [if_neg (by omega), if_pos (by omega)]
  · unfold kd; rw [if_neg (by omega), if_pos (by omega), show (6 + 3 * a + 2 - 6) % 3 = 2 by omega]; rfl
  · unfold ln; rw [if_neg (by omega), if_pos (by omega)]
theorem qN (S : HS) (i n a : Nat) : gD (sN S i n) a = if a = i then true else gD S a := rfl
theorem qX (S : HS) (i k : Nat) (v : Option Nat) (a : Nat) : gD (sX S i k v) a = gD S a := rfl
/-- j definitions are made -/
def IV (j : Nat) (S : HS) : Prop := (∀ i, gD S i = decide (i < 6 + 3 * j)) ∧ (gX S 0 0 = some 1 ∧ gX S 0 1 = some 3 ∧ gX S 0 3 = some 4 ∧ gX S 0 5 = some 5 ∧ gX S 1 0 = some 2) ∧ (∀ k, gX S 3 k = none ∧ gX S 5 k = none) ∧ (∀ t, t < j → gX S 4 t = some (6 + 3 * t) ∧ gX S (6 + 3 * t) 6 = some (6 + 3 * t + 1) ∧ gX S (6 + 3 * t) 7 = some (6 + 3 * t + 2)) ∧ (gF S 0 2 = 0 ∧ gF S 0 4 = 0 ∧ gF S 0 7 = 0 ∧ gF S 0 8 = -1 ∧ gF S 1 1 = 0) ∧ gC S = 6 + 3 * j ∧ gN S = 16672 + 24 * j
def dS (S : HS) (j : Nat) : HS := sX (sX (sN (sX (sN (sN S (6 + 3 * j) 8) (6 + 3 * j + 1) 8) (6 + 3 * j) 6 (some (6 + 3 * j + 1))) (6 + 3 * j + 2) 8) (6 + 3 * j) 7 (some (6 + 3 * j + 2))) 4 j (some (6 + 3 * j))
theorem dS_X (S : HS) (j i k : Nat) : gX (dS S j) i k = if i = 4 ∧ k = j then some (6 + 3 * j) else if i = 6 + 3 * j ∧ k = 7 then some (6 + 3 * j + 2) else if i = 6 + 3 * j + 2 then none else if i = 6 + 3 * j ∧ k = 6 then some (6 + 3 * j + 1) else if i = 6 + 3 * j + 1 then none else if i = 6 + 3 * j then none else gX S i k := rfl
theorem dS_F (S : HS) (j i k : Nat) : gF (dS S j) i k = if i = 6 + 3 * j + 2 then 0 else if i = 6 + 3 * j + 1 then 0 else if i = 6 + 3 * j then 0 else gF S i k := rfl
theorem dS_D (S : HS) (j i : Nat) : gD (dS S j) i = if i = 6 + 3 * j + 2 then true else if i = 6 + 3 * j + 1 then true else if i = 6 + 3 * j then true else gD S i := rfl
theorem dS_x {S : HS} {j i k : Nat} (h : i < 6 + 3 * j) (h4 : ¬ (i = 4 ∧ k = j)) : gX (dS S j) i k = gX S i k := by
  rw [dS_X, if_neg h4, if_neg (by omega), if_neg (by omega), if_neg (by omega), if_neg (by omega), if_neg (by omega)]
theorem dS_f {S : HS} {j i k : Nat} (h : i < 6 + 3 * j) : gF (dS S j) i k = gF S i k := by
  rw [dS_F, if_neg (by omega), if_neg (by omega), if_neg (by omega)]
theorem IV.step {j : Nat} {S : HS} (h : IV j S) : IV (j + 1) (dS S j) := by
  obtain ⟨a, ⟨b1, b2, b3, b4, b5⟩, c, d, ⟨e1, e2, e3, e4, e5⟩, f1, f2⟩ := h
  refine ⟨fun i => ?_, ⟨?_, ?_, ?_, ?_, ?_⟩, fun k => ⟨?_, ?_⟩, fun t ht => ?_, ⟨?_, ?_, ?_, ?_, ?_⟩, ?_, ?_⟩
  · rw [dS_D, a]
    by_cases h1 : i = 6 + 3 * j + 2
    · rw [if_pos h1]; exact (decide_eq_true (by omega)).symm
    by_cases h2 : i = 6 + 3 * j + 1
    · rw [if_neg h1, if_pos h2]; exact (decide_eq_true (by omega)).symm
    by_cases h3 : i = 6 + 3 * j
    · rw [if_neg h1, if_neg h2, if_pos h3]; exact (decide_eq_true (by omega)).symm
    rw [if_neg h1, if_neg h2, if_neg h3]
    exact decide_eq_decide.mpr (by omega)
  · rw [dS_x (by omega) (by omega), b1]
  · rw [dS_x (by omega) (by omega), b2]
  · rw [dS_x (by omega) (by omega), b3]
  · rw [dS_x (by omega) (by omega), b4]
  · rw [dS_x (by omega) (by omega), b5]
  · rw [dS_x (by omega) (by omega), (c k).1]
  · rw [dS_x (by omega) (by omega), (c k).2]
  · by_cases e : t = j
    · rw [e]
      refine ⟨?_, ?_, ?_⟩
      · rw [dS_X, if_pos ⟨rfl, rfl⟩]
      · rw [dS_X, if_neg (by omega), if_neg (by omega), if_neg (by omega), if_pos ⟨rfl, rfl⟩]
      · rw [dS_X, if_neg (by omega), if_pos ⟨rfl, rfl⟩]
    · obtain ⟨q1, q2, q3⟩ := d t (by omega)
      exact ⟨(dS_x (by omega) (by omega)).trans q1, (dS_x (by omega) (by omega)).trans q2, (dS_x (by omega) (by omega)).trans q3⟩
  · rw [dS_f (by omega), e1]
  · rw [dS_f (by omega), e2]
  · rw [dS_f (by omega), e3]
  · rw [dS_f (by omega), e4]
  · rw [dS_f (by omega), e5]
  · show gC S + 1 + 1 + 1 = _
    omega
  · show gN S + 8 + 8 + 8 = _
    omega
theorem gdT {α : Type} {c : Prop} [Decidable c] (h : c = True) (x : Option α) : gd c x = x := gd_pos (h ▸ trivial) x
theorem D_init_e {S : HS} {j : Nat} (hj : j < 64) (h0 : gD S (6 + 3 * j) = true) (h1 : gD S (6 + 3 * j + 1) = false) (h2 : gD S (6 + 3 * j + 2) = false) : f_D_init (6 + 3 * j) S = some (sX (sN (sX (sN S (6 + 3 * j + 1) 8) (6 + 3 * j) 6 (some (6 + 3 * j + 1))) (6 + 3 * j + 2) 8) (6 + 3 * j) 7 (some (6 + 3 * j + 2))) := by
  obtain ⟨k0, ⟨k1, k2⟩, k3, k4⟩ := kdE hj
  have a0 : gD (sN S (6 + 3 * j + 1) 8) (6 + 3 * j) = true := by rw [qN, if_neg (by omega), h0]
  have a1 : gD (sN S (6 + 3 * j + 1) 8) (6 + 3 * j + 1) = true := by rw [qN, if_pos rfl]
  have a2 : gD (sN S (6 + 3 * j + 1) 8) (6 + 3 * j + 2) = false := by rw [qN, if_neg (by omega), h2]
  unfold f_D_init f_D_init_b9 f_D_init_b17
  rw [lt_e, gd_pos h0, gd_pos h0, gd_pos ⟨k1, k2, h1, by omega⟩, lt_e, gd_pos ⟨k0, a0⟩, gd_pos a1, lt_e, lt_e]
  have b0 : gD (sX (sN S (6 + 3 * j + 1) 8) (6 + 3 * j) 6 (some (6 + 3 * j + 1))) (6 + 3 * j) = true := a0
  have b2 : gD (sX (sN S (6 + 3 * j + 1) 8) (6 + 3 * j) 6 (some (6 + 3 * j + 1))) (6 + 3 * j + 2) = false := a2
  rw [gd_pos b0, gd_pos b0, gd_pos ⟨k3, k4, b2, by omega⟩, lt_e]
  rw [gd_pos ⟨k0, by rw [qN, if_neg (by omega), b0]⟩, gd_pos (by rw [qN, if_pos rfl]), lt_e]
theorem P_turn {S : HS} {j : Nat} (hj : j < 64) (h : IV j S) (kc : Nat → Int32 → HS → Option HS) : f_P_init_b51B FU kc 0 (nI j) S = kc 0 (nI (j + 1)) (dS S j) := by
  obtain ⟨a, ⟨b1, b2, b3, b4, b5⟩, c, d, -⟩ := h
  obtain ⟨k0, -⟩ := kdE hj
  have d0 : gD S 0 = true := (a 0).trans (decide_eq_true (by omega))
  have d4 : gD S 4 = true := (a 4).trans (decide_eq_true (by omega))
  have z0 : gD S (6 + 3 * j) = false := (a _).trans (decide_eq_false (by omega))
  have z1 : gD S (6 + 3 * j + 1) = false := (a _).trans (decide_eq_false (by omega))
  have z2 : gD S (6 + 3 * j + 2) = false := (a _).trans (decide_eq_false (by omega))
  have e0 : gD (sN S (6 + 3 * j) 8) 0 = true := by rw [qN, if_neg (by omega), d0]
  have e4 : gD (sN S (6 + 3 * j) 8) 4 = true := by rw [qN, if_neg (by omega), d4]
  have ej : gD (sN S (6 + 3 * j) 8) (6 + 3 * j) = true := by rw [qN, if_pos rfl]
  have ed := D_init_e (S := sN S (6 + 3 * j) 8) hj ej (by rw [qN, if_neg (by omega), z1]) (by rw [qN, if_neg (by omega), z2])
  unfold f_P_init_b51B f_P_init_b65 f_P_init_b69
  rw [if_neg (show ¬ (64 : Int32) ≤ nI j from fun q => by rw [show (64 : Int32) = nI 64 from rfl, nI_leI (by decide) (by omega)] at q; omega), gd_pos ⟨rfl, d0⟩, b3, ob_s, lt_e, cl_n (by omega), gd_pos d0, gd_pos d4, gd_pos d0, gd_pos ⟨k0, z0, by omega⟩, lt_e, gd_pos e0, gd_pos ej, gd_pos e4, ed, ob_s]
  rw [gd_pos ⟨rfl, by rw [qX, qN, if_neg (by omega), qX, qN, if_neg (by omega), e4], rfl⟩, gd_pos (in_n hj (by decide)), gd_pos ⟨k0, by rw [qX, qN, if_neg (by omega), qX, qN, if_neg (by omega), ej]⟩, lt_e, lt_e, nI_1]
  rfl
theorem P_loop : ∀ (r j : Nat) (S : HS), j + r = 64 → IV j S → ∀ k, r < k → ∃ S', f_P_init_b51 FU k 0 (nI j) S = some S' ∧ IV 64 S'
  | 0, j, S, hj, h, k, hk => by
    obtain ⟨k, rfl⟩ : ∃ k1, k = k1 + 1 := ⟨k - 1, by omega⟩
    obtain rfl : j = 64 := by omega
    refine ⟨S, ?_, h⟩
    show f_P_init_b51B FU (f_P_init_b51 FU k) 0 (nI 64) S = _
    unfold f_P_init_b51B
    rw [if_pos (by decide)]
  | r + 1, j, S, hj, h, k, hk => by
    obtain ⟨k, rfl⟩ : ∃ k1, k = k1 + 1 := ⟨k - 1, by omega⟩
    obtain ⟨S', e, h'⟩ := P_loop r (j + 1) (dS S j) (by omega) h.step k (by omega)
    refine ⟨S', ?_, h'⟩
    show f_P_init_b51B FU (f_P_init_b51 FU k) 0 (nI j) S = _
    rw [P_turn (by omega) h, e]
def S00 : HS := sF (sX (sN (sX (sN (sX (sN (sX (sX (sN (sN (sN Sz 0 9) 1 7) 2 8192) 1 0 (some 2)) 0 0 (some 1)) 3 4200) 0 1 (some 3)) 4 64) 0 3 (some 4)) 5 4200) 0 5 (some 5)) 0 8 (-1)
theorem S00_D (i : Nat) : gD S00 i = if i = 5 then true else if i = 4 then true else if i = 3 then true else if i = 2 then true else if i = 1 then true else if i = 0 then true else false := rfl
theorem S00_I : IV 0 S00 := by
  refine ⟨fun i => ?_, ⟨rfl, rfl, rfl, rfl, rfl⟩, fun k => ⟨rfl, rfl⟩, fun t ht => absurd ht (by omega), ⟨rfl, rfl, rfl, rfl, rfl⟩, rfl, rfl⟩
  by_cases h : i < 6
  · rw [decide_eq_true (by omega), S00_D]
    repeat' split
    all_goals first | rfl | omega
  · rw [decide_eq_false (by omega), S00_D, if_neg (by omega), if_neg (by omega), if_neg (by omega), if_neg (by omega), if_neg (by omega), if_neg (by omega)]
theorem P_init_0 : f_P_init FU 0 (sN Sz 0 9) = f_P_init_b51 FU FU 0 (nI 0) S00 := rfl
theorem P_init_e : ∃ S1, f_P_init FU 0 (sN Sz 0 9) = some S1 ∧ IV 64 S1 := by
  rw [P_init_0]
  exact P_loop 64 0 S00 rfl S00_I FU (by decide)
-- the model's
def mk : HS → List (Nat × Nat) → HS
  | S, [] => S
  | S, (i, n) :: r => mk (sX (sN S i n) 200 (i - 200) (some i)) r
def mL : List (Nat × Nat) := [(211, 64), (212, 64), (213, 64), (214, 64), (215, 64), (216, 64), (217, 512), (218, 512), (220, 8192), (221, 8192), (222, 8192), (223, 8192), (224, 8192), (225, 8192), (226, 8192), (227, 8192), (228, 8192), (229, 33000), (230, 33000)]
def SM (S : HS) : HS := mk (sF (mk S [(201, 8192)]) 200 4 (-1)) mL
def MV (S : HS) (a : Nat) : Prop := gD S 200 = true ∧ gD S a = true ∧ 200 < a ∧ ∀ i, a < i → i < 300 → gD S i = false
theorem MV.nx {S : HS} {a slot b len : Nat} (h : MV S a) (hab : a < b) : MV (sN (sX S 200 slot (some a)) b len) b := by
  obtain ⟨h1, h2, h3, h4⟩ := h
  refine ⟨?_, ?_, by omega, fun i q1 q2 => ?_⟩
  · rw [qN, if_neg (by omega), qX, h1]
  · rw [qN, if_pos rfl]
  · rw [qN, if_neg (by omega), qX, h4 i (by omega) q2]
theorem mst {S : HS} {a slot b c len : Nat} (F : Nat → HS → Option HS) {R : Option HS} (h : MV S a) (hb : kd b = c ∧ ln b = len) (hab : a < b ∧ b < 300) (hk : MV (sN (sX S 200 slot (some a)) b len) b → F b (sN (sX S 200 slot (some a)) b len) = R) : gd (kd 200 = 5 ∧ gD S 200 = true) (gd (gD S a = true) (lt (sX S 200 slot (some a)) fun S' => lt b fun i => gd (gD S' 200 = true) (gd (gD S' 200 = true) (gd (kd i = c ∧ ln i = len ∧ gD S' i = false ∧ ¬ (300 ≤ i ∧ i < 600)) (lt (sN S' i len) fun S'' => F i S''))))) = R := by
  have h1 := h.1
  have h2 := h.2.1
  rw [gd_pos ⟨rfl, h1⟩, gd_pos h2, lt_e, lt_e]
  have e1 : gD (sX S 200 slot (some a)) 200 = true := h1
  have e2 : gD (sX S 200 slot (some a)) b = false := h.2.2.2 b hab.1 hab.2
  rw [gd_pos e1, gd_pos e1, gd_pos ⟨hb.1, hb.2, e2, by omega⟩, lt_e]
  exact hk (h.nx hab.1)
theorem M_i23 {S : HS} {R : Option HS} (h : MV S 211) (hk : MV (sN (sX S 200 11 (some 211)) 212 64) 212 → f_M_init_b31 200 212 200 (sN (sX S 200 11 (some 211)) 212 64) = R) : f_M_init_b23 200 211 200 S = R :=
  mst (fun i S => f_M_init_b31 200 i 200 S) (c := 11) h ⟨rfl, rfl⟩ ⟨by decide, by decide⟩ hk
theorem M_i31 {S : HS} {R : Option HS} (h : MV S 212) (hk : MV (sN (sX S 200 12 (some 212)) 213 64) 213 → f_M_init_b39 200 213 200 (sN (sX S 200 12 (some 212)) 213 64) = R) : f_M_init_b31 200 212 200 S = R :=
  mst (fun i S => f_M_init_b39 200 i 200 S) (c := 11) h ⟨rfl, rfl⟩ ⟨by decide, by decide⟩ hk
theorem M_i39 {S : HS} {R : Option HS} (h : MV S 213) (hk : MV (sN (sX S 200 13 (some 213)) 214 64) 214 → f_M_init_b47 200 214 200 (sN (sX S 200 13 (some 213)) 214 64) = R) : f_M_init_b39 200 213 200 S = R :=
  mst (fun i S => f_M_init_b47 200 i 200 S) (c := 11) h ⟨rfl, rfl⟩ ⟨by decide, by decide⟩ hk
theorem M_i47 {S : HS} {R : Option HS} (h : MV S 214) (hk : MV (sN (sX S 200 14 (some 214)) 215 64) 215 → f_M_init_b55 200 215 200 (sN (sX S 200 14 (some 214)) 215 64) = R) : f_M_init_b47 200 214 200 S = R :=
  mst (fun i S => f_M_init_b55 200 i 200 S) (c := 11) h ⟨rfl, rfl⟩ ⟨by decide, by decide⟩ hk
theorem M_i55 {S : HS} {R : Option HS} (h : MV S 215) (hk : MV (sN (sX S 200 15 (some 215)) 216 64) 216 → f_M_init_b63 200 216 200 (sN (sX S 200 15 (some 215)) 216 64) = R) : f_M_init_b55 200 215 200 S = R :=
  mst (fun i S => f_M_init_b63 200 i 200 S) (c := 12) h ⟨rfl, rfl⟩ ⟨by decide, by decide⟩ hk
theorem M_i63 {S : HS} {R : Option HS} (h : MV S 216) (hk : MV (sN (sX S 200 16 (some 216)) 217 512) 217 → f_M_init_b72 200 217 200 (sN (sX S 200 16 (some 216)) 217 512) = R) : f_M_init_b63 200 216 200 S = R :=
  mst (fun i S => f_M_init_b72 200 i 200 S) (c := 12) h ⟨rfl, rfl⟩ ⟨by decide, by decide⟩ hk
theorem M_i72 {S : HS} {R : Option HS} (h : MV S 217) (hk : MV (sN (sX S 200 17 (some 217)) 218 512) 218 → f_M_init_b81 200 218 200 (sN (sX S 200 17 (some 217)) 218 512) = R) : f_M_init_b72 200 217 200 S = R :=
  mst (fun i S => f_M_init_b81 200 i 200 S) (c := 11) h ⟨rfl, rfl⟩ ⟨by decide, by decide⟩ hk
theorem M_i81 {S : HS} {R : Option HS} (h : MV S 218) (hk : MV (sN (sX S 200 18 (some 218)) 220 8192) 220 → f_M_init_b90 200 220 200 (sN (sX S 200 18 (some 218)) 220 8192) = R) : f_M_init_b81 200 218 200 S = R :=
  mst (fun i S => f_M_init_b90 200 i 200 S) (c := 11) h ⟨rfl, rfl⟩ ⟨by decide, by decide⟩ hk
theorem M_i90 {S : HS} {R : Option HS} (h : MV S 220) (hk : MV (sN (sX S 200 20 (some 220)) 221 8192) 221 → f_M_init_b99 200 221 200 (sN (sX S 200 20 (some 220)) 221 8192) = R) : f_M_init_b90 200 220 200 S = R :=
  mst (fun i S => f_M_init_b99 200 i 200 S) (c := 11) h ⟨rfl, rfl⟩ ⟨by decide, by decide⟩ hk
theorem M_i99 {S : HS} {R : Option HS} (h : MV S 221) (hk : MV (sN (sX S 200 21 (some 221)) 222 8192) 222 → f_M_init_b108 200 222 200 (sN (sX S 200 21 (some 221)) 222 8192) = R) : f_M_init_b99 200 221 200 S = R :=
  mst (fun i S => f_M_init_b108 200 i 200 S) (c := 11) h ⟨rfl, rfl⟩ ⟨by decide, by decide⟩ hk
theorem M_i108 {S : HS} {R : Option HS} (h : MV S 222) (hk : MV (sN (sX S 200 22 (some 222)) 223 8192) 223 → f_M_init_b117 200 223 200 (sN (sX S 200 22 (some 222)) 223 8192) = R) : f_M_init_b108 200 222 200 S = R :=
  mst (fun i S => f_M_init_b117 200 i 200 S) (c := 11) h ⟨rfl, rfl⟩ ⟨by decide, by decide⟩ hk
theorem M_i117 {S : HS} {R : Option HS} (h : MV S 223) (hk : MV (sN (sX S 200 23 (some 223)) 224 8192) 224 → f_M_init_b126 200 224 200 (sN (sX S 200 23 (some 223)) 224 8192) = R) : f_M_init_b117 200 223 200 S = R :=
  mst (fun i S => f_M_init_b126 200 i 200 S) (c := 11) h ⟨rfl, rfl⟩ ⟨by decide, by decide⟩ hk
theorem M_i126 {S : HS} {R : Option HS} (h : MV S 224) (hk : MV (sN (sX S 200 24 (some 224)) 225 8192) 225 → f_M_init_b135 200 225 200 (sN (sX S 200 24 (some 224)) 225 8192) = R) : f_M_init_b126 200 224 200 S = R :=
  mst (fun i S => f_M_init_b135 200 i 200 S) (c := 11) h ⟨rfl, rfl⟩ ⟨by decide, by decide⟩ hk
theorem M_i135 {S : HS} {R : Option HS} (h : MV S 225) (hk : MV (sN (sX S 200 25 (some 225)) 226 8192) 226 → f_M_init_b144 200 226 200 (sN (sX S 200 25 (some 225)) 226 8192) = R) : f_M_init_b135 200 225 200 S = R :=
  mst (fun i S => f_M_init_b144 200 i 200 S) (c := 11) h ⟨rfl, rfl⟩ ⟨by decide, by decide⟩ hk
theorem M_i144 {S : HS} {R : Option HS} (h : MV S 226) (hk : MV (sN (sX S 200 26 (some 226)) 227 8192) 227 → f_M_init_b153 200 227 200 (sN (sX S 200 26 (some 226)) 227 8192) = R) : f_M_init_b144 200 226 200 S = R :=
  mst (fun i S => f_M_init_b153 200 i 200 S) (c := 12) h ⟨rfl, rfl⟩ ⟨by decide, by decide⟩ hk
theorem M_i153 {S : HS} {R : Option HS} (h : MV S 227) (hk : MV (sN (sX S 200 27 (some 227)) 228 8192) 228 → f_M_init_b162 200 228 200 (sN (sX S 200 27 (some 227)) 228 8192) = R) : f_M_init_b153 200 227 200 S = R :=
  mst (fun i S => f_M_init_b162 200 i 200 S) (c := 12) h ⟨rfl, rfl⟩ ⟨by decide, by decide⟩ hk
theorem M_i162 {S : HS} {R : Option HS} (h : MV S 228) (hk : MV (sN (sX S 200 28 (some 228)) 229 33000) 229 → f_M_init_b170 200 229 200 (sN (sX S 200 28 (some 228)) 229 33000) = R) : f_M_init_b162 200 228 200 S = R :=
  mst (fun i S => f_M_init_b170 200 i 200 S) (c := 10) h ⟨rfl, rfl⟩ ⟨by decide, by decide⟩ hk
theorem M_i170 {S : HS} {R : Option HS} (h : MV S 229) (hk : MV (sN (sX S 200 29 (some 229)) 230 33000) 230 → f_M_init_b178 230 200 (sN (sX S 200 29 (some 229)) 230 33000) = R) : f_M_init_b170 200 229 200 S = R :=
  mst (fun i S => f_M_init_b178 i 200 S) (c := 11) h ⟨rfl, rfl⟩ ⟨by decide, by decide⟩ hk
theorem M_init_e {S : HS} (h0 : gD S 200 = true) (h : ∀ i, 200 < i → i < 300 → gD S i = false) : f_M_init 200 S = some (SM S) := by
  unfold f_M_init f_M_init_b10
  have e0 : gD (sN S 201 8192) 200 = true := h0
  have e1 : gD (sX (sN S 201 8192) 200 1 (some 201)) 200 = true := h0
  have e2 : gD (sF (sX (sN S 201 8192) 200 1 (some 201)) 200 4 (-1)) 200 = true := h0
  have e3 : gD (sF (sX (sN S 201 8192) 200 1 (some 201)) 200 4 (-1)) 211 = false := h 211 (by decide) (by decide)
  rw [lt_e, gd_pos h0, gd_pos h0, gd_pos ⟨rfl, rfl, h 201 (by decide) (by decide), by decide⟩, lt_e, gd_pos ⟨rfl, e0⟩, gd_pos (show gD (sN S 201 8192) 201 = true from rfl), lt_e, gd_pos ⟨rfl, e1⟩, lt_e, lt_e, gd_pos e2, gd_pos e2, gd_pos ⟨rfl, rfl, e3, by decide⟩, lt_e]
  have hm : MV (sN (sF (sX (sN S 201 8192) 200 1 (some 201)) 200 4 (-1)) 211 64) 211 := ⟨h0, rfl, by decide, fun i q1 q2 => by
    rw [qN, if_neg (by omega)]
    show gD (sN S 201 8192) i = false
    rw [qN, if_neg (by omega), h i (by omega) q2]⟩
  exact M_i23 hm fun h => M_i31 h fun h => M_i39 h fun h => M_i47 h fun h => M_i55 h fun h => M_i63 h fun h => M_i72 h fun h => M_i81 h fun h => M_i90 h fun h => M_i99 h fun h => M_i108 h fun h => M_i117 h fun h => M_i126 h fun h => M_i135 h fun h => M_i144 h fun h => M_i153 h fun h => M_i162 h fun h => M_i170 h fun h => (by
    unfold f_M_init_b178
    rw [gd_pos ⟨rfl, h.1⟩, gd_pos h.2.1, lt_e]
    rfl)
theorem mk_D : ∀ (l : List (Nat × Nat)) (S : HS) (i : Nat), gD (mk S l) i = (gD S i || l.any (fun q => q.1 == i))
  | [], S, i => (Bool.or_false _).symm
  | (a, n) :: r, S, i => by
    show gD (mk (sX (sN S a n) 200 (a - 200) (some a)) r) i = _
    rw [mk_D r, qX, qN, List.any_cons]
    by_cases e : i = a
    · rw [if_pos e, e, beq_self_eq_true, Bool.true_or, Bool.true_or, Bool.or_true]
    · rw [if_neg e, show (a == i) = false from beq_false_of_ne (fun q => e q.symm), Bool.false_or]
theorem mk_F : ∀ (l : List (Nat × Nat)) (S : HS) (i k : Nat), i ≤ 200 → l.all (fun q => decide (200 < q.1)) = true → gF (mk S l) i k = gF S i k
  | [], S, i, k, _, _ => rfl
  | (a, n) :: r, S, i, k, h, hl => by
    rw [List.all_cons, Bool.and_eq_true, decide_eq_true_iff] at hl
    show gF (mk (sX (sN S a n) 200 (a - 200) (some a)) r) i k = _
    rw [mk_F r _ i k h hl.2]
    show (if i = a then 0 else gF S i k) = _
    rw [if_neg (by have := hl.1; omega)]
theorem mk_X : ∀ (l : List (Nat × Nat)) (S : HS) (i k : Nat), i < 200 → l.all (fun q => decide (200 < q.1)) = true → gX (mk S l) i k = gX S i k
  | [], S, i, k, _, _ => rfl
  | (a, n) :: r, S, i, k, h, hl => by
    rw [List.all_cons, Bool.and_eq_true, decide_eq_true_iff] at hl
    show gX (mk (sX (sN S a n) 200 (a - 200) (some a)) r) i k = _
    rw [mk_X r _ i k h hl.2, rXi (by omega)]
    show (if i = a then none else gX S i k) = _
    rw [if_neg (by have := hl.1; omega)]
theorem mk_Y : ∀ (l : List (Nat × Nat)) (S : HS) (k : Nat), l.all (fun q => decide (200 < q.1)) = true → gX (mk S l) 200 k = if l.any (fun q => q.1 == 200 + k) = true then some (200 + k) else gX S 200 k
  | [], S, k, _ => rfl
  | (a, n) :: r, S, k, hl => by
    rw [List.all_cons, Bool.and_eq_true, decide_eq_true_iff] at hl
    have h1 : 200 < a := hl.1
    show gX (mk (sX (sN S a n) 200 (a - 200) (some a)) r) 200 k = _
    rw [mk_Y r _ k hl.2, List.any_cons]
    by_cases e : a = 200 + k
    · rw [show ((a, n).1 == 200 + k) = true from beq_iff_eq.mpr e, Bool.true_or, if_pos rfl]
      split
      · rfl
      · rw [rX, if_pos ⟨rfl, by omega⟩, e]
    · rw [show ((a, n).1 == 200 + k) = false from beq_false_of_ne e, Bool.false_or, rX, if_neg (fun q => e (by omega))]
      congr 1
      show (if 200 = a then none else gX S 200 k) = _
      rw [if_neg (by omega)]
theorem mk_C : ∀ (l : List (Nat × Nat)) (S : HS), gC (mk S l) = gC S + l.length
  | [], S => rfl
  | (a, n) :: r, S => by
    show gC (mk (sX (sN S a n) 200 (a - 200) (some a)) r) = _
    rw [mk_C r, List.length_cons]
    show gC S + 1 + r.length = _
    omega
def sz : List (Nat × Nat) → Nat
  | [] => 0
  | q :: r => q.2 + sz r
theorem mk_N : ∀ (l : List (Nat × Nat)) (S : HS), gN (mk S l) = gN S + sz l
  | [], S => rfl
  | (a, n) :: r, S => by
    show gN (mk (sX (sN S a n) 200 (a - 200) (some a)) r) = _
    rw [mk_N r]
    show gN S + n + sz r = gN S + (n + sz r)
    omega
theorem SM_D (S : HS) (i : Nat) : gD (SM S) i = ((gD S i || (i == 201)) || mL.any (fun q => q.1 == i)) := by
  unfold SM
  rw [mk_D]
  show (gD (mk S [(201, 8192)]) i || _) = _
  rw [mk_D, show ([((201 : Nat), (8192 : Nat))].any (fun q => q.1 == i)) = (i == 201) from by
    rw [List.any_cons, List.any_nil, Bool.or_false]
    by_cases e : i = 201
    · rw [e]
    · rw [show (i == 201) = false from beq_false_of_ne e]; exact beq_false_of_ne (fun q => e q.symm)]
theorem SM_F {S : HS} {i k : Nat} (h : i ≤ 200) (h4 : ¬ (i = 200 ∧ k = 4)) : gF (SM S) i k = gF S i k := by
  unfold SM
  rw [mk_F _ _ _ _ h (by decide), rF, if_neg h4, mk_F _ _ _ _ h (by decide)]
theorem SM_F4 {S : HS} : gF (SM S) 200 4 = -1 := by
  unfold SM
  rw [mk_F _ _ _ _ (by decide) (by decide), rFy]
theorem SM_X {S : HS} {i k : Nat} (h : i < 200) : gX (SM S) i k = gX S i k := by
  unfold SM
  rw [mk_X _ _ _ _ h (by decide)]
  show gX (mk S [(201, 8192)]) i k = _
  rw [mk_X _ _ _ _ h (by decide)]
theorem SM_Y {S : HS} {k : Nat} (h : (201 : Nat) = 200 + k ∨ mL.any (fun q => q.1 == 200 + k) = true) : gX (SM S) 200 k = some (200 + k) := by
  unfold SM
  rw [mk_Y _ _ _ (by decide)]
  by_cases e : mL.any (fun q => q.1 == 200 + k) = true
  · rw [if_pos e]
  · rw [if_neg e]
    show gX (mk S [(201, 8192)]) 200 k = _
    rw [mk_Y _ _ _ (by decide), if_pos (by rw [List.any_cons, show ((201, 8192).1 == 200 + k) = true from beq_iff_eq.mpr (h.resolve_right e), Bool.true_or])]
theorem tbK : ∀ k, k < 31 → (decide (0 < k ∧ kd (200 + k) < 99) → (decide ((201 : Nat) = 200 + k) || mL.any (fun q => q.1 == 200 + k)) = true) := by decide +kernel
theorem tbD : ∀ i, i < 300 → (decide (198 ≤ i ∧ kd i < 99) → (decide (i = 200) || (decide (i = 201) || mL.any (fun q => q.1 == i))) = true) := by decide +kernel
theorem mL_lt : ∀ i, 231 ≤ i → mL.any (fun q => q.1 == i) = false := by
  intro i hi
  rw [List.any_eq_false]
  intro q hq
  have h : mL.all (fun q => decide (q.1 < 231)) = true := by decide
  have h2 := List.all_eq_true.mp h q hq
  rw [decide_eq_true_iff] at h2
  rw [beq_iff_eq]
  omega
theorem kd2 {i : Nat} (h : kd i = 2) : ∃ t, t < 64 ∧ i = 6 + 3 * t := by
  by_cases h6 : i < 198
  · by_cases h3 : i < 6
    · exact absurd h ((show ∀ i, i < 6 → ¬ kd i = 2 by decide +kernel) i h3)
    · refine ⟨(i - 6) / 3, by omega, ?_⟩
      have hm : (i - 6) % 3 = 0 := by
        unfold kd at h
        rw [if_neg h3, if_pos h6] at h
        have : (i - 6) % 3 < 3 := Nat.mod_lt _ (by decide)
        generalize (i - 6) % 3 = m at h this ⊢
        match m, h with
        | 0, _ => rfl
        | 1, h => exact absurd h (by decide)
        | (m + 2), h => exact absurd (show (11 : Nat) = 2 from h) (by decide)
      omega
  · by_cases h7 : i < 1000
    · exact absurd h ((show ∀ i, i < 1000 → 198 ≤ i → ¬ kd i = 2 by decide +kernel) i h7 (by omega))
    · unfold kd at h
      rw [if_neg (by omega), if_neg (by omega), if_neg (by omega), if_neg (by omega)] at h
      by_cases e : i % 2 = 0
      · rw [if_pos e] at h; cases h
      · rw [if_neg e] at h; cases h
theorem pure_start : ∃ S1 S2, f_P_init FU 0 (sN Sz 0 9) = some S1 ∧ gD S1 200 = false ∧ (gC S1 ≤ 500000 ∧ gN S1 ≤ 7000000) ∧ f_M_init 200 (sN S1 200 33) = some S2 ∧ Full S2 ∧ (gC S2 ≤ 600000 ∧ gN S2 ≤ 7302249) ∧ RS S2 S2 0 := by
  obtain ⟨S1, e1, a, ⟨b1, b2, b3, b4, b5⟩, c, d, ⟨f1, f2, f3, f4, f5⟩, g1, g2⟩ := P_init_e
  have hD : ∀ i, gD (SM (sN S1 200 33)) i = (((if i = 200 then true else decide (i < 198)) || (i == 201)) || mL.any (fun q => q.1 == i)) := fun i => by rw [SM_D, qN, a]
  have hF : ∀ i k, i < 198 → gF (SM (sN S1 200 33)) i k = gF S1 i k := fun i k h => by
    rw [SM_F (by omega) (by omega)]
    show (if i = 200 then 0 else gF S1 i k) = _
    rw [if_neg (by omega)]
  have hX : ∀ i k, i < 198 → gX (SM (sN S1 200 33)) i k = gX S1 i k := fun i k h => by
    rw [SM_X (by omega)]
    show (if i = 200 then none else gX S1 i k) = _
    rw [if_neg (by omega)]
  have hZ : ∀ k, k ≠ 4 → gF (SM (sN S1 200 33)) 200 k = 0 := fun k h => by
    rw [SM_F (by omega) (by omega)]
    rfl
  have hC : gC (SM (sN S1 200 33)) = gC S1 + 21 := by
    unfold SM
    rw [mk_C]
    show gC (mk (sN S1 200 33) [(201, 8192)]) + _ = _
    rw [mk_C]
    show gC S1 + 1 + 1 + 19 = _
    omega
  have hN : gN (SM (sN S1 200 33)) = gN S1 + (33 + 8192 + sz mL) := by
    unfold SM
    rw [mk_N]
    show gN (mk (sN S1 200 33) [(201, 8192)]) + _ = _
    rw [mk_N]
    show gN S1 + 33 + 8192 + sz mL = _
    omega
  have hs : sz mL = 141136 := by decide +kernel
  have hd1 : ∀ i, i < 198 → gD (SM (sN S1 200 33)) i = true := fun i h => by
    rw [hD, if_neg (by omega), decide_eq_true h]
    rfl
  have hd0 : ∀ i, 1000 ≤ i → gD (SM (sN S1 200 33)) i = false := fun i h => by
    rw [hD, if_neg (by omega), decide_eq_false (by omega), mL_lt i (by omega), show (i == 201) = false from beq_false_of_ne (by omega)]
    rfl
  refine ⟨S1, SM (sN S1 200 33), e1, (a 200).trans rfl, ⟨by omega, by omega⟩, M_init_e rfl (fun i q1 q2 => ?_), ⟨fun i hi => ?_, fun i k j hj => ?_⟩, ⟨by omega, by omega⟩, by decide, ?_, ?_, fun j hj => absurd hj (by omega), ⟨0, 0, 0, _, _, _, 0, RD.zero ⟨fun k => ?_, fun k => ?_, fun k => ?_, fun k => ?_, hd1, by omega, by omega⟩ (by decide) ?_ ?_ ?_ ?_, by decide⟩, ?_, ?_⟩
  · rw [qN, if_neg (by omega), a]
    exact decide_eq_false (by omega)
  · unfold fxB at hi
    rw [Bool.and_eq_true, decide_eq_true_iff, decide_eq_true_iff] at hi
    by_cases h : i < 198
    · exact hd1 i h
    · have t := tbD i hi.1 (decide_eq_true ⟨by omega, hi.2⟩)
      rw [hD]
      by_cases e : i = 200
      · rw [if_pos e]; rfl
      · rw [if_neg e, decide_eq_false (by omega), Bool.false_or]
        rw [decide_eq_false e, Bool.false_or] at t
        exact t
  · unfold finR at hj
    by_cases i0 : i = 0
    · rw [if_pos i0] at hj
      subst i0
      rw [hX 0 k (by decide)]
      split at hj
      · rw [b1]; exact hj
      · rw [b2]; exact hj
      · rw [b3]; exact hj
      · rw [b4]; exact hj
      · cases hj
    rw [if_neg i0] at hj
    by_cases i1 : i = 1
    · rw [if_pos i1] at hj
      subst i1
      rw [hX 1 k (by decide)]
      by_cases k0 : k = 0
      · rw [if_pos k0] at hj
        rw [k0, b5]; exact hj
      · rw [if_neg k0] at hj; cases hj
    rw [if_neg i1] at hj
    by_cases i4 : i = 4
    · rw [if_pos i4] at hj
      subst i4
      rw [hX 4 k (by decide)]
      by_cases k0 : k < 64
      · rw [if_pos k0] at hj
        rw [(d k k0).1]; exact hj
      · rw [if_neg k0] at hj; cases hj
    rw [if_neg i4] at hj
    by_cases i2 : kd i = 2
    · rw [if_pos i2] at hj
      obtain ⟨t, ht, rfl⟩ : ∃ t, t < 64 ∧ i = 6 + 3 * t := kd2 i2
      rw [hX _ k (by omega)]
      split at hj
      · rw [(d t ht).2.1]; exact hj
      · rw [(d t ht).2.2]; exact hj
      · cases hj
    rw [if_neg i2] at hj
    by_cases i5 : i = 200
    · rw [if_pos i5] at hj
      subst i5
      by_cases k0 : 0 < k ∧ kd (200 + k) < 99 ∧ k < 31
      · rw [if_pos k0] at hj
        have t := tbK k k0.2.2 (decide_eq_true ⟨k0.1, k0.2.1⟩)
        rw [Bool.or_eq_true, decide_eq_true_iff] at t
        rw [SM_Y t]; exact hj
      · rw [if_neg k0] at hj; cases hj
    rw [if_neg i5] at hj
    cases hj
  · rw [hF 1 1 (by decide), f5]; rfl
  · rw [hZ 2 (by decide)]; rfl
  · rw [hX 3 k (by decide), (c k).1]; rfl
  · rw [hd0 _ (by omega)]; exact (decide_eq_false (by omega)).symm
  · rw [hX 5 k (by decide), (c k).2]; rfl
  · rw [hd0 _ (by omega)]; exact (decide_eq_false (by omega)).symm
  · rw [hF 0 2 (by decide), f1]
  · rw [hF 0 4 (by decide), f2]
  · rw [hZ 19 (by decide)]
  · rw [hZ 10 (by decide)]
  · rw [hF 0 7 (by decide), f3, hZ 3 (by decide)]
  · rw [hF 0 8 (by decide), f4, SM_F4]
