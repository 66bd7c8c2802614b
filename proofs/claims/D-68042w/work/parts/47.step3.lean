-- the other steps: names, parentheses
theorem nI6 {n : Nat} {x : Nat} (hn : n < 6) (hx : x < 6) : (nI n = nI x) ↔ n = x := nI_eq (by omega) (by omega)
/-- the parenthesis of a case -/
theorem ST_o {C M : HS} {T : Nat → Int32} {n p a h g : Nat} {pr al pt : Nat → Nat} {k κ s : Nat} {fs : List (Nat × Nat × Nat)} {v0 : Nat} (H : RWN C M T n p a h g pr al pt k κ s fs v0) (h8 : s < 8) (hf : fch κ s = 40) : ∃ C' M', f_P_step FU (1001 + 2 * fs.length) C = some C' ∧ f_M_step FU M = some M' ∧ OUT C M C' M' T n p v0 := by
  obtain ⟨⟨hC, hL⟩, hz, hb, hR, hRN⟩ := id H
  obtain ⟨r1, r2, r3, r4, r5, r6, r7, r8, b4, b5, b6, b7, b8, b9, b10, b11, b12⟩ := id hR
  have hsl : s < flen κ := Nat.lt_of_lt_of_le b4.2.2.1 (flm_le κ b4.2.1)
  obtain ⟨t1, t2, t3, t4⟩ := tb_o κ b4.2.1 b4.1 s h8 hsl hf
  obtain ⟨S6, eM, fm6, R6, D6, l6, v6, L6, tk, -, -⟩ := M_POP H t3 (by decide) (by decide)
  have hs6 := tkS_lt T n p
  have R1 : RB (sF C (1001 + 2 * fs.length) 2 (nI (s + 1))) S6 a h g pr al pt ((k, κ, s + 1) :: fs) v0 := R6.stp t1 t2
  have c1 : CV (sF C (1001 + 2 * fs.length) 2 (nI (s + 1))) T n p := hC.sO
  have z1 : ∀ q, gF (sF C (1001 + 2 * fs.length) 2 (nI (s + 1))) 0 q = gF C 0 q := fun q => by rw [rFi (by omega)]
  have eC : f_P_step FU (1001 + 2 * fs.length) C = f_P_pass FU 500 (sF C (1001 + 2 * fs.length) 2 (nI (s + 1))) := by
    rw [C_STEP H (by rw [hf]; exact Or.inl (by decide))]
    unfold cdis
    rw [hf, if_pos rfl]
    cases f_P_pass FU 500 _ <;> rfl
  rcases tk with ⟨t, f3, f4⟩ | ⟨t, T6, z3, z4⟩
  · refine ⟨_, S6, eC.trans (C_passN (x := 0) c1 (by decide) ((z1 7).trans hz.1) (by omega)), ?_, FC.sO.tr FC.fl, fm6, Or.inl ⟨FT.mk5 t f3 f4, ⟨p, c1.fl⟩, h, g, R1.1, hb.2.1, hb.2.2⟩⟩
    rw [eM, if_neg (by rw [f3]; exact (fcd_pos 5).2.1)]
  · have eM2 : f_M_step FU M = (if (gF S6 200 6) = 0 then f_M_step_b180 FU (1 : Int32) S6 else f_M_step_b180 FU (0 : Int32) S6) := by
      rw [eM, if_pos (by rw [z3]; exact Int32.le_refl _)]
      rfl
    rw [T6.2.2.2.2.2.2.1] at eM2
    unfold f_M_step_b180 at eM2
    by_cases q0 : tkS T n p = 0
    · obtain ⟨C2, e2, c2, f2⟩ := C_next c1
      have hgo := tkE_go (T := T) hC.2.1 (by omega)
      refine ⟨C2, S6, eC.trans ((C_passY (x := 0) c1 ((z1 7).trans hz.1) q0).trans e2), ?_, FC.sO.tr (FC.frx f2), fm6, Or.inr ⟨_, a, h, g, pr, al, pt, (k, κ, s + 1) :: fs, hgo, ⟨c2, L6⟩, ⟨(f2.1 0 7 (by decide)).1.trans ((z1 7).trans hz.1), z3, (f2.1 0 8 (by decide)).1.trans ((z1 8).trans hz.2.2.1), z4⟩, ⟨by omega, hb.2⟩, R1.frx f2, D6, l6, ?_⟩⟩
      · rw [eM2, q0, if_pos (show nI 0 = (0 : Int32) from rfl), M_mustY T6 z3 (by decide) (by omega), ob2_s]
      · rw [v6]; show _ = nI (thr v0 fs + dr κ (s + 1)); rw [t4]
    · refine ⟨_, mfl S6 (tkS T n p) (sk T n p), eC.trans (C_passN (x := 0) c1 (by decide) ((z1 7).trans hz.1) q0), ?_, FC.sO.tr FC.fl, fm6.tr FM.fl, Or.inl ⟨FT.mk, ⟨p, c1.fl⟩, h, g, R1.1, hb.2.1, hb.2.2⟩⟩
      rw [eM2, if_neg (show ¬ nI (tkS T n p) = (0 : Int32) from nI_ne (b := 0) (by omega) (by decide) q0), M_mustN T6 z3 (Or.inl rfl), ob2_s]
-- a name is kept
def setC1 (C : HS) (k : Nat) (w : Int64) (q : Int32) : HS := sF (sL C (1000 + 2 * k) 6 w) (1000 + 2 * k) 8 q
def setC2 (C : HS) (k : Nat) (w : Int64) (q : Int32) : HS := sF (sL C (1000 + 2 * k) 7 w) (1000 + 2 * k) 9 q
def setM1 (M : HS) (k : Nat) (w : Int64) (q : Int32) : HS := sF (sL M 227 k w) 223 k q
def setM2 (M : HS) (k : Nat) (w : Int64) (q : Int32) : HS := sF (sL M 228 k w) 224 k q
theorem NQ.s1 {C M : HS} {k j : Nat} {w : Int64} {q : Int32} (h : NQ C M j) : NQ (setC1 C k w q) (setM1 M k w q) j := by
  unfold setC1 setM1
  by_cases e : j = k
  · subst e
    obtain ⟨h1, h2, h3, h4, h5, h6, h7, h8, h9⟩ := h
    refine ⟨?_, ?_, ?_, ?_, ?_, ?_, ?_, ?_, ?_⟩
    · rw [rFi (by decide), rFL, rFk (by decide), rFL, h1]
    · rw [rFi (by decide), rFL, rFk (by decide), rFL, h2]
    · rw [rFi (by decide), rFL, rFk (by decide), rFL, h3]
    · rw [rFi (by decide), rFL, rFk (by decide), rFL, h4]
    · rw [rFy, rFy]
    · rw [rFi (by decide), rFL, rFk (by decide), rFL, h6]
    · rw [rFi (by decide), rFL, rFk (by decide), rFL, h7]
    · rw [rLF, rLy, rLF, rLy]
    · rw [rLF, rLi (by decide), rLF, rLk (by decide), h9]
  · exact h.cg (fun x _ _ => by rw [rFi (by omega), rFL]) (fun x => by rw [rLF, rLi (by omega)]) (fun i _ _ => by rw [rFk e, rFL]) (fun i _ _ => by rw [rLF, rLk e])
theorem NQ.s2 {C M : HS} {k j : Nat} {w : Int64} {q : Int32} (h : NQ C M j) : NQ (setC2 C k w q) (setM2 M k w q) j := by
  unfold setC2 setM2
  by_cases e : j = k
  · subst e
    obtain ⟨h1, h2, h3, h4, h5, h6, h7, h8, h9⟩ := h
    refine ⟨?_, ?_, ?_, ?_, ?_, ?_, ?_, ?_, ?_⟩
    · rw [rFi (by decide), rFL, rFk (by decide), rFL, h1]
    · rw [rFi (by decide), rFL, rFk (by decide), rFL, h2]
    · rw [rFi (by decide), rFL, rFk (by decide), rFL, h3]
    · rw [rFi (by decide), rFL, rFk (by decide), rFL, h4]
    · rw [rFi (by decide), rFL, rFk (by decide), rFL, h5]
    · rw [rFy, rFy]
    · rw [rFi (by decide), rFL, rFk (by decide), rFL, h7]
    · rw [rLF, rLi (by decide), rLF, rLk (by decide), h8]
    · rw [rLF, rLy, rLF, rLy]
  · exact h.cg (fun x _ _ => by rw [rFi (by omega), rFL]) (fun x => by rw [rLF, rLi (by omega)]) (fun i _ _ => by rw [rFk e, rFL]) (fun i _ _ => by rw [rLF, rLk e])
theorem M_setName_e {M : HS} {T : Nat → Int32} {n p k : Nat} (h : MT M T n p) (hs : tkS T n p = 2) (hk : k < 8192) : f_M_setName (nI k) M = some (setM1 M k (tkW T n p) (nI (sk T n p))) := by
  unfold f_M_setName setM1
  rw [gd_pos (in_n hk (by decide)), lt_e, gd_pos (in_n hk (by decide)), lt_e, cl_n (by omega), rFL, h.2.2.2.2.2.1, h.2.2.2.2.2.2.2.1 hs]
theorem FM.s1 {M : HS} {k : Nat} {w : Int64} {q : Int32} : FM M (setM1 M k w q) := (FM.sL ⟨by decide, by decide⟩).tr (FM.sF (Or.inl ⟨by decide, by decide⟩))
theorem FM.s2 {M : HS} {k : Nat} {w : Int64} {q : Int32} : FM M (setM2 M k w q) := (FM.sL ⟨by decide, by decide⟩).tr (FM.sF (Or.inl ⟨by decide, by decide⟩))
theorem setM1_F {M : HS} {k : Nat} {w : Int64} {q : Int32} {i j : Nat} (h : i ≠ 223) : gF (setM1 M k w q) i j = gF M i j := by unfold setM1; rw [rFi h, rFL]
theorem setM2_F {M : HS} {k : Nat} {w : Int64} {q : Int32} {i j : Nat} (h : i ≠ 224) : gF (setM2 M k w q) i j = gF M i j := by unfold setM2; rw [rFi h, rFL]
theorem MT.s1 {M : HS} {T : Nat → Int32} {n p k : Nat} {w : Int64} {q : Int32} (h : MT M T n p) : MT (setM1 M k w q) T n p := h.cg (fun x _ => setM1_F (by decide)) (fun x => setM1_F (by decide)) (by unfold setM1; rw [rLF, rLi (by decide)])
theorem MT.s2 {M : HS} {T : Nat → Int32} {n p k : Nat} {w : Int64} {q : Int32} (h : MT M T n p) : MT (setM2 M k w q) T n p := h.cg (fun x _ => setM2_F (by decide)) (fun x => setM2_F (by decide)) (by unfold setM2; rw [rLF, rLi (by decide)])
theorem CV.s1 {C : HS} {T : Nat → Int32} {n p k : Nat} {w : Int64} {q : Int32} (h : CV C T n p) : CV (setC1 C k w q) T n p := by
  unfold setC1
  exact h.cg (fun x => by rw [rFi (by omega), rFL]) (fun x => by rw [rFi (by omega), rFL]) (fun x => by rw [rLF, rLi (by omega)]) (fun _ => rfl)
theorem CV.s2 {C : HS} {T : Nat → Int32} {n p k : Nat} {w : Int64} {q : Int32} (h : CV C T n p) : CV (setC2 C k w q) T n p := by
  unfold setC2
  exact h.cg (fun x => by rw [rFi (by omega), rFL]) (fun x => by rw [rFi (by omega), rFL]) (fun x => by rw [rLF, rLi (by omega)]) (fun _ => rfl)
theorem LexM.s1 {M : HS} {T : Nat → Int32} {n p k : Nat} {w : Int64} {q : Int32} (h : LexM M T n p) : LexM (setM1 M k w q) T n p := h.cg (setM1_F (by decide)) (setM1_F (by decide)) (fun _ => setM1_F (by decide))
theorem LexM.s2 {M : HS} {T : Nat → Int32} {n p k : Nat} {w : Int64} {q : Int32} (h : LexM M T n p) : LexM (setM2 M k w q) T n p := h.cg (setM2_F (by decide)) (setM2_F (by decide)) (fun _ => setM2_F (by decide))
/-- a definition's name -/
theorem ST_f {C M : HS} {T : Nat → Int32} {n p a h g : Nat} {pr al pt : Nat → Nat} {k κ s : Nat} {fs : List (Nat × Nat × Nat)} {v0 : Nat} (H : RWN C M T n p a h g pr al pt k κ s fs v0) (h8 : s < 8) (hf : fch κ s = 102) : ∃ C' M', f_P_step FU (1001 + 2 * fs.length) C = some C' ∧ f_M_step FU M = some M' ∧ OUT C M C' M' T n p v0 := by
  obtain ⟨⟨hC, hL⟩, hz, hb, hR, hRN⟩ := id H
  obtain ⟨r1, r2, r3, r4, r5, r6, r7, r8, b4, b5, b6, b7, b8, b9, b10, b11, b12⟩ := id hR
  have hg : fs.length < g := r2.2.1
  have hsl : s < flen κ := Nat.lt_of_lt_of_le b4.2.2.1 (flm_le κ b4.2.1)
  obtain ⟨t1, t2, t3, t4⟩ := tb_f κ b4.2.1 b4.1 s h8 hsl hf
  obtain ⟨S6, eM, fm6, R6, D6, l6, v6, L6, tk, -, -⟩ := M_POP H t3 (by decide) (by decide)
  have hs6 := tkS_lt T n p
  have R1 : RB (sF C (1001 + 2 * fs.length) 2 (nI (s + 1))) S6 a h g pr al pt ((k, κ, s + 1) :: fs) v0 := R6.stp t1 t2
  have c1 : CV (sF C (1001 + 2 * fs.length) 2 (nI (s + 1))) T n p := hC.sO
  have z1 : ∀ q, gF (sF C (1001 + 2 * fs.length) 2 (nI (s + 1))) 0 q = gF C 0 q := fun q => by rw [rFi (by omega)]
  have hkh : k < h := by omega
  have eC : f_P_step FU (1001 + 2 * fs.length) C = f_P_function FU (1000 + 2 * k) (sF C (1001 + 2 * fs.length) 2 (nI (s + 1))) := by
    have P1 : PL (sF C (1001 + 2 * fs.length) 2 (nI (s + 1))) h g := r1
    rw [C_STEP H (by rw [hf]; exact Or.inl (by decide))]
    unfold cdis
    rw [hf, if_neg (by decide), if_neg (by decide), if_neg (by decide), if_neg (by decide), if_pos rfl, gdO P1 hg _ _ rfl, rFk (show (0 : Nat) ≠ 2 by decide), b5, gd_pos (in_n (by omega) (by decide)), cl_n (by omega), (P1.nd hkh).1, ob_s]
    cases f_P_function FU (1000 + 2 * k) _ <;> rfl
  generalize hC1 : sF C (1001 + 2 * fs.length) 2 (nI (s + 1)) = C1 at R1 c1 z1 eC
  have fc1 : FC C C1 := by rw [← hC1]; exact FC.sO
  rcases tk with ⟨t, f3, f4⟩ | ⟨t, T6, z3, z4⟩
  · refine ⟨cfl C1 (tkS T n p) (sk T n p), S6, ?_, ?_, fc1.tr FC.fl, fm6, Or.inl ⟨FT.mk5 t f3 f4, ⟨p, c1.fl⟩, h, g, R1.1, hb.2.1, hb.2.2⟩⟩
    · rw [eC]
      unfold f_P_function
      rw [C_isName c1, ob_s, mwF_no (by omega), if_pos rfl, C_refuse c1 ((z1 7).trans hz.1), ob_s]
    · rw [eM, if_neg (by rw [f3]; exact (fcd_pos 5).2.1)]
  · have eM2 : f_M_step FU M = (ob (f_M_isOwn FU S6) fun r19 => ob2 (f_M_must r19 S6) fun r21 S20 => (if r21 = 0 then some S20 else ob (f_M_setName (nI k) S20) fun S22 => some S22)) := by
      rw [eM, if_pos (by rw [z3]; exact Int32.le_refl _)]
      rfl
    rw [M_own T6, ob_s] at eM2
    rcases mwF_01 T n p with q | q
    · refine ⟨cfl C1 (tkS T n p) (sk T n p), mfl S6 (tkS T n p) (sk T n p), ?_, ?_, fc1.tr FC.fl, fm6.tr FM.fl, Or.inl ⟨FT.mk, ⟨p, c1.fl⟩, h, g, R1.1, hb.2.1, hb.2.2⟩⟩
      · rw [eC]
        unfold f_P_function
        rw [C_isName c1, ob_s, q, if_pos rfl, C_refuse c1 ((z1 7).trans hz.1), ob_s]
      · rw [eM2, q, M_mustN T6 z3 (Or.inl rfl), ob2_s, if_pos rfl]
    · have h2 : tkS T n p = 2 := by
        refine Decidable.byContradiction (fun z => ?_)
        rw [mwF_no z] at q
        exact absurd q (by decide)
      have c2 : CV (setC1 C1 k (tkW T n p) (nI (sk T n p))) T n p := c1.s1
      obtain ⟨C2, e2, c3, f2⟩ := C_next c2
      have hgo := tkE_go (T := T) hC.2.1 (by omega)
      have R2 : RB (setC1 C1 k (tkW T n p) (nI (sk T n p))) (setM1 S6 k (tkW T n p) (nI (sk T n p))) a h g pr al pt ((k, κ, s + 1) :: fs) v0 := by
        refine R1.upd (C' := setC1 C1 k (tkW T n p) (nI (sk T n p))) (M' := setM1 S6 k (tkW T n p) (nI (sk T n p))) R1.1 ?_ ?_ (setM1_F (by decide)) (fun j hj => (R1.2.2.2.2.1 j hj).s1) (fun j x hx => ?_) (fun i x hi => ⟨?_, rfl⟩) ?_ rfl ?_ ?_ t1 R1.2.2.2.2.2.2.2.2.2.2.2.2.2.2.2.1
        all_goals unfold setC1
        · rw [rFi (by omega), rFL]
        · rw [rFi (by omega), rFL]
        · rw [rFk (by omega), rFL]
        · rw [rFi (by omega), rFL]
        · rw [rFi (by omega), rFL]
        · rw [rFi (by omega), rFL]; exact R1.2.2.2.2.2.2.2.2.2.2.2.1
        · rw [rFi (by omega), rFL]; exact R1.2.2.2.2.2.2.2.2.2.2.2.2.1
      have zz : ∀ x, gF (setC1 C1 k (tkW T n p) (nI (sk T n p))) 0 x = gF C1 0 x := fun x => by unfold setC1; rw [rFi (by omega), rFL]
      refine ⟨C2, setM1 S6 k (tkW T n p) (nI (sk T n p)), ?_, ?_, (fc1.tr (FC.sNl.tr FC.sNd)).tr (FC.frx f2), fm6.tr FM.s1, Or.inr ⟨_, a, h, g, pr, al, pt, (k, κ, s + 1) :: fs, hgo, ⟨c3, L6.s1⟩, ⟨(f2.1 0 7 (by decide)).1.trans ((zz 7).trans ((z1 7).trans hz.1)), (setM1_F (by decide)).trans z3, (f2.1 0 8 (by decide)).1.trans ((zz 8).trans ((z1 8).trans hz.2.2.1)), (setM1_F (by decide)).trans z4⟩, ⟨by omega, hb.2⟩, R2.frx f2, D6.cg (fun x _ => ⟨setM1_F (by decide), setM1_F (by decide)⟩), (setM1_F (by decide)).trans l6, ?_⟩⟩
      · rw [eC]
        unfold f_P_function
        rw [C_isName c1, ob_s, q, if_neg (by decide), gdN R1.1 hkh _ _ rfl, lt_e, gdN (C := C1) R1.1 hkh (sL C1 (1000 + 2 * k) 6 (gL C1 1 5)) _ rfl, lt_e, rFL, c1.2.2.2.2.1, c1.2.2.2.2.2.2.2.1 h2]
        show ob (f_X_next FU (setC1 C1 k (tkW T n p) (nI (sk T n p)))) _ = _
        rw [e2, ob_s]
      · rw [eM2, q, M_mustY T6 z3 (by decide) (by omega), ob2_s, if_neg (by decide), M_setName_e T6 h2 (by omega), ob_s]
      · rw [setM1_F (by decide), v6]; show _ = nI (thr v0 fs + dr κ (s + 1)); rw [t4]
