theorem RB.bnd1 {C M M' : HS} {a h g : Nat} {pr al pt : Nat → Nat} {k κ s : Nat} {fs : List (Nat × Nat × Nat)} {v0 : Nat} {w : Int64} {q : Int32} (hR : RB C M a h g pr al pt ((k, κ, s) :: fs) v0) (hs' : s + 1 < flm κ) (hd : dov κ (s + 1) = dov κ s + 1) (h24 : thr v0 fs + dov κ s < 24) (m19 : gF M' 200 19 = gF M 200 19) (mF : ∀ i j, 220 ≤ i → i ≤ 226 → gF M' i j = gF (setM1 M k w q) i j) (mL : ∀ i j, 227 ≤ i → i ≤ 228 → gL M' i j = gL (setM1 M k w q) i j) : RB (sF (setC1 (sF C (1001 + 2 * fs.length) 2 (nI (s + 1))) k w q) (1001 + 2 * fs.length) 3 (nI (thr v0 fs + dov κ s + 1))) M' a h g pr al pt ((k, κ, s + 1) :: fs) v0 := by
  refine hR.upd (C' := sF (setC1 (sF C (1001 + 2 * fs.length) 2 (nI (s + 1))) k w q) (1001 + 2 * fs.length) 3 (nI (thr v0 fs + dov κ s + 1))) (M' := M') hR.1 ?_ ?_ m19 (fun j hj => ?_) (fun j x hx => ?_) (fun i x hi => ⟨?_, rfl⟩) ?_ rfl ?_ ?_ hs' (by rw [hd]; omega)
  · unfold setC1; rw [rFi (by omega), rFi (by omega), rFL, rFi (by omega)]
  · unfold setC1; rw [rFi (by omega), rFi (by omega), rFL, rFi (by omega)]
  · have h1 : NQ (sF C (1001 + 2 * fs.length) 2 (nI (s + 1))) M j := (hR.2.2.2.2.1 j hj).cg (fun x _ _ => by rw [rFi (by omega)]) (fun _ => rfl) (fun _ _ _ => rfl) (fun _ _ _ => rfl)
    exact (h1.s1 (k := k) (w := w) (q := q)).cg (fun x _ _ => by rw [rFi (by omega)]) (fun _ => rfl) (fun i g1 g2 => mF i j g1 g2) (fun i g1 g2 => mL i j g1 g2)
  · unfold setC1; rw [rFi (by omega), rFk (by omega), rFL, rFi (by omega)]
  · unfold setC1; rw [rFi (by omega), rFi (by omega), rFL, rFi (by omega)]
  · unfold setC1; rw [rFk (by decide), rFi (by omega), rFL, rFk (by decide)]
  · unfold setC1; rw [rFk (by decide), rFi (by omega), rFL, rFy]
  · rw [rFy, hd, Nat.add_assoc]
theorem RB.bnd2 {C M M' : HS} {a h g : Nat} {pr al pt : Nat → Nat} {k κ s : Nat} {fs : List (Nat × Nat × Nat)} {v0 : Nat} {w : Int64} {q : Int32} (hR : RB C M a h g pr al pt ((k, κ, s) :: fs) v0) (hs' : s + 1 < flm κ) (hd : dov κ (s + 1) = dov κ s + 1) (h24 : thr v0 fs + dov κ s < 24) (m19 : gF M' 200 19 = gF M 200 19) (mF : ∀ i j, 220 ≤ i → i ≤ 226 → gF M' i j = gF (setM2 M k w q) i j) (mL : ∀ i j, 227 ≤ i → i ≤ 228 → gL M' i j = gL (setM2 M k w q) i j) : RB (sF (setC2 (sF C (1001 + 2 * fs.length) 2 (nI (s + 1))) k w q) (1001 + 2 * fs.length) 3 (nI (thr v0 fs + dov κ s + 1))) M' a h g pr al pt ((k, κ, s + 1) :: fs) v0 := by
  refine hR.upd (C' := sF (setC2 (sF C (1001 + 2 * fs.length) 2 (nI (s + 1))) k w q) (1001 + 2 * fs.length) 3 (nI (thr v0 fs + dov κ s + 1))) (M' := M') hR.1 ?_ ?_ m19 (fun j hj => ?_) (fun j x hx => ?_) (fun i x hi => ⟨?_, rfl⟩) ?_ rfl ?_ ?_ hs' (by rw [hd]; omega)
  · unfold setC2; rw [rFi (by omega), rFi (by omega), rFL, rFi (by omega)]
  · unfold setC2; rw [rFi (by omega), rFi (by omega), rFL, rFi (by omega)]
  · have h1 : NQ (sF C (1001 + 2 * fs.length) 2 (nI (s + 1))) M j := (hR.2.2.2.2.1 j hj).cg (fun x _ _ => by rw [rFi (by omega)]) (fun _ => rfl) (fun _ _ _ => rfl) (fun _ _ _ => rfl)
    exact (h1.s2 (k := k) (w := w) (q := q)).cg (fun x _ _ => by rw [rFi (by omega)]) (fun _ => rfl) (fun i g1 g2 => mF i j g1 g2) (fun i g1 g2 => mL i j g1 g2)
  · unfold setC2; rw [rFi (by omega), rFk (by omega), rFL, rFi (by omega)]
  · unfold setC2; rw [rFi (by omega), rFi (by omega), rFL, rFi (by omega)]
  · unfold setC2; rw [rFk (by decide), rFi (by omega), rFL, rFk (by decide)]
  · unfold setC2; rw [rFk (by decide), rFi (by omega), rFL, rFy]
  · rw [rFy, hd, Nat.add_assoc]
theorem FC.s1 {C : HS} {k : Nat} {w : Int64} {q : Int32} : FC C (setC1 C k w q) := FC.sNl.tr FC.sNd
theorem FC.s2 {C : HS} {k : Nat} {w : Int64} {q : Int32} : FC C (setC2 C k w q) := FC.sNl.tr FC.sNd
theorem ST_x {C M : HS} {T : Nat → Int32} {n p a h g : Nat} {pr al pt : Nat → Nat} {k κ s : Nat} {fs : List (Nat × Nat × Nat)} {v0 : Nat} (H : RWN C M T n p a h g pr al pt k κ s fs v0) (h8 : s < 8) (hf : fch κ s = 120) : ∃ C' M', f_P_step FU (1001 + 2 * fs.length) C = some C' ∧ f_M_step FU M = some M' ∧ OUT C M C' M' T n p v0 := by
  obtain ⟨⟨hC, hL⟩, hz, hb, hR, hRN⟩ := id H
  obtain ⟨r1, r2, r3, r4, r5, r6, r7, r8, b4, b5, b6, b7, b8, b9, b10, b11, b12⟩ := id hR
  have hg : fs.length < g := r2.2.1
  have hsl : s < flen κ := Nat.lt_of_lt_of_le b4.2.2.1 (flm_le κ b4.2.1)
  obtain ⟨t1, t2, t3, -, t5, t6⟩ := tb_x κ b4.2.1 b4.1 s h8 hsl hf
  have tw : ∃ r, nr κ s = 5 :: r := by
    by_cases q : κ = 11 ∨ κ = 21
    · exact ⟨_, (t5 q).1⟩
    · exact ⟨_, (t6 q).1⟩
  obtain ⟨r, tr⟩ := tw
  obtain ⟨S6, eM, fm6, R6, D6, l6, v6, L6, tk, hl6, -⟩ := M_POP H tr (by decide) (by decide)
  have hs6 := tkS_lt T n p
  have hkh : k < h := by omega
  have c1 : CV (sF C (1001 + 2 * fs.length) 2 (nI (s + 1))) T n p := hC.sO
  have z1 : ∀ q, gF (sF C (1001 + 2 * fs.length) 2 (nI (s + 1))) 0 q = gF C 0 q := fun q => by rw [rFi (by omega)]
  have P1 : PL (sF C (1001 + 2 * fs.length) 2 (nI (s + 1))) h g := r1
  have o0 : gF (sF C (1001 + 2 * fs.length) 2 (nI (s + 1))) (1001 + 2 * fs.length) 0 = nI k := by rw [rFk (by decide), b5]
  have o3 : gF (sF C (1001 + 2 * fs.length) 2 (nI (s + 1))) (1001 + 2 * fs.length) 3 = nI (thr v0 fs + dov κ s) := by rw [rFk (by decide), b8]
  have eC : f_P_step FU (1001 + 2 * fs.length) C = f_P_variable FU (1001 + 2 * fs.length) 0 (sF C (1001 + 2 * fs.length) 2 (nI (s + 1))) := by
    rw [C_STEP H (by rw [hf]; exact Or.inl (by decide))]
    unfold cdis f_P_step_b164 f_P_step_b177
    rw [hf, if_neg (by decide), if_neg (by decide), if_neg (by decide), if_neg (by decide), if_neg (by decide), if_pos rfl, if_neg (by decide)]
    cases f_P_variable FU (1001 + 2 * fs.length) 0 _ <;> rfl
  rcases tk with ⟨t, f3, f4⟩ | ⟨t, T6, z3, z4⟩
  · refine ⟨_, S6, eC.trans (C_varN c1 P1 hg hkh (by omega) o0 o3 b11 ((z1 7).trans hz.1) (Or.inl rfl) (Or.inl (mwF_no (by omega)))), ?_, FC.sO.tr FC.fl, fm6, Or.inl ⟨FT.mk5 t f3 f4, ⟨p, c1.fl⟩, h, g, P1, hb.2.1, hb.2.2⟩⟩
    rw [eM, if_neg (by rw [f3]; exact (fcd_pos 5).2.1)]
  have eM2 : f_M_step FU M = (ob (f_M_isOwn FU S6) fun r7 => ob2 (f_M_must r7 S6) fun r9 S8 => (if r9 = 0 then some S8 else ob (f_M_setName (nI k) S8) fun S10 => gd (inR (nI k) 8192) <| (if (gF S10 220 (nI k).toNatClampNeg) = (11 : Int32) then f_M_step_b225 FU (nI k) S10 else gd (inR (nI k) 8192) <| (if (gF S10 220 (nI k).toNatClampNeg) = (21 : Int32) then f_M_step_b225 FU (nI k) S10 else ob (f_M_bind S10) fun S13 => some S13)))) := by
    rw [eM, if_pos (by rw [z3]; exact Int32.le_refl _)]
    rfl
  rw [M_own T6, ob_s] at eM2
  rcases mwF_01 T n p with hF | hF
  · refine ⟨_, mfl S6 (tkS T n p) (sk T n p), eC.trans (C_varN c1 P1 hg hkh (by omega) o0 o3 b11 ((z1 7).trans hz.1) (Or.inl rfl) (Or.inl hF)), ?_, FC.sO.tr FC.fl, fm6.tr FM.fl, Or.inl ⟨FT.mk, ⟨p, c1.fl⟩, h, g, P1, hb.2.1, hb.2.2⟩⟩
    rw [eM2, hF, M_mustN T6 z3 (Or.inl rfl), ob2_s, if_pos rfl]
  have h2 := own2 hF
  have hk8 : k < 8192 := by omega
  have T10 : MT (setM1 S6 k (tkW T n p) (nI (sk T n p))) T n p := T6.s1
  have z10 : gF (setM1 S6 k (tkW T n p) (nI (sk T n p))) 200 3 = 0 := (setM1_F (by decide)).trans z3
  have v10 : gF (setM1 S6 k (tkW T n p) (nI (sk T n p))) 200 32 = nI (thr v0 fs + dov κ s) := by rw [setM1_F (by decide), v6, t1]
  have k10 : gF (setM1 S6 k (tkW T n p) (nI (sk T n p))) 220 k = nI κ := by rw [setM1_F (by decide), (R6.2.2.2.2.1 k b4.2.2.2).1, b9]
  have eM3 : f_M_step FU M = if κ = 11 ∨ κ = 21 then f_M_letBinds (nI k) (setM1 S6 k (tkW T n p) (nI (sk T n p))) else f_M_bind (setM1 S6 k (tkW T n p) (nI (sk T n p))) := by
    have hb2 : ∀ x : Option HS, (ob x fun S13 => some S13) = x := fun x => by cases x <;> rfl
    rw [eM2, hF, M_mustY T6 z3 (by decide) (by omega), ob2_s, if_neg (by decide), M_setName_e T6 h2 hk8, ob_s, gd_pos (in_n hk8 (by decide)), gd_pos (in_n hk8 (by decide)), cl_n (by omega), k10]
    unfold f_M_step_b225
    rw [hb2, hb2]
    by_cases q11 : κ = 11
    · rw [if_pos (Or.inl q11), q11, if_pos (show nI 11 = (11 : Int32) from rfl)]
    · rw [if_neg (show ¬ nI κ = (11 : Int32) from nI_ne (b := 11) (by omega) (by decide) q11)]
      by_cases q21 : κ = 21
      · rw [if_pos (Or.inr q21), q21, if_pos (show nI 21 = (21 : Int32) from rfl)]
      · rw [if_neg (show ¬ nI κ = (21 : Int32) from nI_ne (b := 21) (by omega) (by decide) q21), if_neg (by omega)]
  by_cases q24 : thr v0 fs + dov κ s = 24
  · have h24 : (24 : Int32) ≤ gF (setM1 S6 k (tkW T n p) (nI (sk T n p))) 200 32 := by rw [v10]; exact ((le24 b11).2).mpr q24
    refine ⟨_, mfl (setM1 S6 k (tkW T n p) (nI (sk T n p))) (tkS T n p) (sk T n p), eC.trans (C_varN c1 P1 hg hkh (by omega) o0 o3 b11 ((z1 7).trans hz.1) (Or.inl rfl) (Or.inr (Or.inl q24))), ?_, FC.sO.tr FC.fl, (fm6.tr FM.s1).tr FM.fl, Or.inl ⟨FT.mk, ⟨p, c1.fl⟩, h, g, P1, hb.2.1, hb.2.2⟩⟩
    rw [eM3, M_letN T10 z10 h24, M_bindN T10 z10 h24, ite_self]
  · have q24' : thr v0 fs + dov κ s < 24 := by omega
    obtain ⟨C', e1, c2, f2⟩ := C_varY c1 P1 hg hkh (by omega) o0 o3 q24' hF
    have hgo := tkE_go (T := T) hC.2.1 (by omega)
    have zC : ∀ x, gF (sF (setC1 (sF C (1001 + 2 * fs.length) 2 (nI (s + 1))) k (tkW T n p) (nI (sk T n p))) (1001 + 2 * fs.length) 3 (nI (thr v0 fs + dov κ s + 1))) 0 x = gF C 0 x := fun x => by unfold setC1; rw [rFi (by omega), rFi (by omega), rFL, rFi (by omega)]
    have fcA : FC C C' := ((FC.sO.tr FC.s1).tr FC.sO).tr (FC.frx f2)
    by_cases qL : κ = 11 ∨ κ = 21
    · obtain ⟨u1, u2, u3⟩ := t5 qL
      rw [if_pos qL] at eM3
      obtain ⟨M', e3, D', l', g1, g2, g3, g4⟩ := M_letY (o := nI k) T10 z10 (by omega) v10 q24' (D6.cg (fun x _ => ⟨setM1_F (by decide), setM1_F (by decide)⟩)) ((setM1_F (by decide)).trans l6) hl6
      have er : row k κ (s + 1) ++ rows fs = (1, nI k) :: (10, nI k) :: (r.map (fun w => (w, nI k)) ++ rows fs) := by
        have : r = [lst κ, 8, 3] := (List.cons.inj (tr.symm.trans u1)).2
        unfold row
        rw [u2, this]
        rfl
      refine ⟨C', M', eC.trans e1, eM3.trans e3, fcA, (fm6.tr FM.s1).tr (FM.push g1 g2 g3 g4), Or.inr ⟨_, a, h, g, pr, al, pt, (k, κ, s + 1) :: fs, hgo, ⟨c2, L6.s1.cg (g1 200 2 (by decide) (by decide) (by decide)) (g1 200 5 (by decide) (by decide) (by decide)) (fun j => g1 201 j (by decide) (by decide) (by omega))⟩, ⟨(f2.1 0 7 (by decide)).1.trans ((zC 7).trans hz.1), (g1 200 3 (by decide) (by decide) (by decide)).trans z10, (f2.1 0 8 (by decide)).1.trans ((zC 8).trans hz.2.2.1), (g1 200 4 (by decide) (by decide) (by decide)).trans ((setM1_F (by decide)).trans z4)⟩, ⟨by omega, hb.2⟩, (R6.bnd1 (M' := M') t2 t3 q24' ((g1 200 19 (by decide) (by decide) (by decide)).trans (setM1_F (by decide))) (fun i j q1 q2 => g1 i j (by omega) (by omega) (by omega)) (fun i j _ _ => g2 i j)).frx f2, ?_, ?_, ?_⟩⟩
      · show Due M' (row k κ (s + 1) ++ rows fs); rw [er]; exact D'
      · show gF M' 200 31 = nI (row k κ (s + 1) ++ rows fs).length; rw [er, l']; rfl
      · rw [g1 200 32 (by decide) (by decide) (by decide), v10]; show _ = nI (thr v0 fs + dr κ (s + 1)); rw [u3, t1]
    · obtain ⟨u1, u2⟩ := t6 qL
      rw [if_neg qL, M_bindY T10 z10 (by omega) v10 q24'] at eM3
      have hr : r = rr κ (s + 1) := (List.cons.inj (tr.symm.trans u1)).2
      rw [hr] at D6 l6
      refine ⟨C', _, eC.trans e1, eM3, fcA, (fm6.tr FM.s1).tr (FM.sF (Or.inr ⟨rfl, by decide, by decide, by decide⟩)), Or.inr ⟨_, a, h, g, pr, al, pt, (k, κ, s + 1) :: fs, hgo, ⟨c2, (L6.s1 (k := k) (w := tkW T n p) (q := nI (sk T n p))).cg rfl rfl (fun j => rfl)⟩, ⟨(f2.1 0 7 (by decide)).1.trans ((zC 7).trans hz.1), (rFk (by decide)).trans z10, (f2.1 0 8 (by decide)).1.trans ((zC 8).trans hz.2.2.1), (rFk (by decide)).trans ((setM1_F (by decide)).trans z4)⟩, ⟨by omega, hb.2⟩, (R6.bnd1 (M' := sF (setM1 S6 k (tkW T n p) (nI (sk T n p))) 200 32 (nI (thr v0 fs + dov κ s + 1))) t2 t3 q24' (by rw [rFk (by decide), setM1_F (by decide)]) (fun i j q1 q2 => by rw [rFi (by omega)]) (fun i j _ _ => rfl)).frx f2, D6.cg (fun x _ => ⟨by rw [rFi (by decide), setM1_F (by decide)], by rw [rFi (by decide), setM1_F (by decide)]⟩), (rFk (by decide)).trans ((setM1_F (by decide)).trans l6), ?_⟩⟩
      rw [rFy]; show _ = nI (thr v0 fs + dr κ (s + 1)); rw [u2, t1, Nat.add_assoc]
theorem ST_y {C M : HS} {T : Nat → Int32} {n p a h g : Nat} {pr al pt : Nat → Nat} {k κ s : Nat} {fs : List (Nat × Nat × Nat)} {v0 : Nat} (H : RWN C M T n p a h g pr al pt k κ s fs v0) (h8 : s < 8) (hf : fch κ s = 121) : ∃ C' M', f_P_step FU (1001 + 2 * fs.length) C = some C' ∧ f_M_step FU M = some M' ∧ OUT C M C' M' T n p v0 := by
  obtain ⟨⟨hC, hL⟩, hz, hb, hR, hRN⟩ := id H
  obtain ⟨r1, r2, r3, r4, r5, r6, r7, r8, b4, b5, b6, b7, b8, b9, b10, b11, b12⟩ := id hR
  have hg : fs.length < g := r2.2.1
  have hsl : s < flen κ := Nat.lt_of_lt_of_le b4.2.2.1 (flm_le κ b4.2.1)
  obtain ⟨t1, t2, t3, t4, t5⟩ := tb_y κ b4.2.1 b4.1 s h8 hsl hf
  obtain ⟨S6, eM, fm6, R6, D6, l6, v6, L6, tk, hl6, -⟩ := M_POP H t4 (by decide) (by decide)
  have hs6 := tkS_lt T n p
  have hkh : k < h := by omega
  have c1 : CV (sF C (1001 + 2 * fs.length) 2 (nI (s + 1))) T n p := hC.sO
  have z1 : ∀ q, gF (sF C (1001 + 2 * fs.length) 2 (nI (s + 1))) 0 q = gF C 0 q := fun q => by rw [rFi (by omega)]
  have P1 : PL (sF C (1001 + 2 * fs.length) 2 (nI (s + 1))) h g := r1
  have o0 : gF (sF C (1001 + 2 * fs.length) 2 (nI (s + 1))) (1001 + 2 * fs.length) 0 = nI k := by rw [rFk (by decide), b5]
  have o3 : gF (sF C (1001 + 2 * fs.length) 2 (nI (s + 1))) (1001 + 2 * fs.length) 3 = nI (thr v0 fs + dov κ s) := by rw [rFk (by decide), b8]
  have n6 : gL (sF C (1001 + 2 * fs.length) 2 (nI (s + 1))) (1000 + 2 * k) 6 = gL S6 227 k := (R6.2.2.2.2.1 k b4.2.2.2).2.2.2.2.2.2.2.1.symm
  have eC : f_P_step FU (1001 + 2 * fs.length) C = f_P_variable FU (1001 + 2 * fs.length) 1 (sF C (1001 + 2 * fs.length) 2 (nI (s + 1))) := by
    rw [C_STEP H (by rw [hf]; exact Or.inl (by decide))]
    unfold cdis f_P_step_b164 f_P_step_b177
    rw [hf, if_neg (by decide), if_neg (by decide), if_neg (by decide), if_neg (by decide), if_neg (by decide), if_neg (by decide), if_pos rfl, if_pos rfl]
    cases f_P_variable FU (1001 + 2 * fs.length) 1 _ <;> rfl
  rcases tk with ⟨t, f3, f4⟩ | ⟨t, T6, z3, z4⟩
  · refine ⟨_, S6, eC.trans (C_varN c1 P1 hg hkh (by omega) o0 o3 b11 ((z1 7).trans hz.1) (Or.inr rfl) (Or.inl (mwF_no (by omega)))), ?_, FC.sO.tr FC.fl, fm6, Or.inl ⟨FT.mk5 t f3 f4, ⟨p, c1.fl⟩, h, g, P1, hb.2.1, hb.2.2⟩⟩
    rw [eM, if_neg (by rw [f3]; exact (fcd_pos 5).2.1)]
  have eM2 : f_M_step FU M = (ob (f_M_isOwn FU S6) fun r14 => (if r14 = 0 then f_M_step_b266 FU (nI k) S6 else gd (inR (nI k) 8192) <| (if (lg_cmp (gL S6 200 8) (gL S6 227 (nI k).toNatClampNeg)) = 0 then f_M_step_b266 FU (nI k) S6 else f_M_step_b267 FU (nI k) (1 : Int32) S6))) := by
    rw [eM, if_pos (by rw [z3]; exact Int32.le_refl _)]
    rfl
  have hk8 : k < 8192 := by omega
  have e266 : f_M_step_b266 FU (nI k) S6 = some (mfl S6 (tkS T n p) (sk T n p)) := by
    unfold f_M_step_b266 f_M_step_b267
    rw [M_mustN T6 z3 (Or.inl rfl), ob2_s, if_pos rfl]
  rw [M_own T6, ob_s, gd_pos (in_n hk8 (by decide)), cl_n (by omega), e266] at eM2
  rcases mwF_01 T n p with hF | hF
  · refine ⟨_, mfl S6 (tkS T n p) (sk T n p), eC.trans (C_varN c1 P1 hg hkh (by omega) o0 o3 b11 ((z1 7).trans hz.1) (Or.inr rfl) (Or.inl hF)), ?_, FC.sO.tr FC.fl, fm6.tr FM.fl, Or.inl ⟨FT.mk, ⟨p, c1.fl⟩, h, g, P1, hb.2.1, hb.2.2⟩⟩
    rw [eM2, hF, if_pos rfl]
  have h2 := own2 hF
  rw [hF, if_neg (by decide), T6.2.2.2.2.2.2.2.1 h2] at eM2
  by_cases qe : tkW T n p = gL S6 227 k
  · refine ⟨_, mfl S6 (tkS T n p) (sk T n p), eC.trans (C_varN c1 P1 hg hkh (by omega) o0 o3 b11 ((z1 7).trans hz.1) (Or.inr rfl) (Or.inr (Or.inr ⟨rfl, hF, qe.trans n6.symm⟩))), ?_, FC.sO.tr FC.fl, fm6.tr FM.fl, Or.inl ⟨FT.mk, ⟨p, c1.fl⟩, h, g, P1, hb.2.1, hb.2.2⟩⟩
    rw [eM2, if_pos ((lg_cmp_eq _ _).mpr qe)]
  have T10 : MT (setM2 S6 k (tkW T n p) (nI (sk T n p))) T n p := T6.s2
  have z10 : gF (setM2 S6 k (tkW T n p) (nI (sk T n p))) 200 3 = 0 := (setM2_F (by decide)).trans z3
  have v10 : gF (setM2 S6 k (tkW T n p) (nI (sk T n p))) 200 32 = nI (thr v0 fs + dov κ s) := by rw [setM2_F (by decide), v6, t1]
  have eM3 : f_M_step FU M = f_M_bind (setM2 S6 k (tkW T n p) (nI (sk T n p))) := by
    have hb2 : ∀ x : Option HS, (ob x fun S13 => some S13) = x := fun x => by cases x <;> rfl
    rw [eM2, if_neg (fun q => qe ((lg_cmp_eq _ _).mp q))]
    unfold f_M_step_b267
    rw [M_mustY T6 z3 (by decide) (by omega), ob2_s, if_neg (by decide), gd_pos (in_n hk8 (by decide)), lt_e, gd_pos (in_n hk8 (by decide)), lt_e, cl_n (by omega), rFL, T6.2.2.2.2.2.1, T6.2.2.2.2.2.2.2.1 h2, hb2]
    rfl
  by_cases q24 : thr v0 fs + dov κ s = 24
  · have h24 : (24 : Int32) ≤ gF (setM2 S6 k (tkW T n p) (nI (sk T n p))) 200 32 := by rw [v10]; exact ((le24 b11).2).mpr q24
    refine ⟨_, mfl (setM2 S6 k (tkW T n p) (nI (sk T n p))) (tkS T n p) (sk T n p), eC.trans (C_varN c1 P1 hg hkh (by omega) o0 o3 b11 ((z1 7).trans hz.1) (Or.inr rfl) (Or.inr (Or.inl q24))), ?_, FC.sO.tr FC.fl, (fm6.tr FM.s2).tr FM.fl, Or.inl ⟨FT.mk, ⟨p, c1.fl⟩, h, g, P1, hb.2.1, hb.2.2⟩⟩
    rw [eM3, M_bindN T10 z10 h24]
  · have q24' : thr v0 fs + dov κ s < 24 := by omega
    obtain ⟨C', e1, c2, f2⟩ := C_varZ c1 P1 hg hkh (by omega) o0 o3 q24' hF (fun z => qe (z.trans n6))
    have hgo := tkE_go (T := T) hC.2.1 (by omega)
    have zC : ∀ x, gF (sF (setC2 (sF C (1001 + 2 * fs.length) 2 (nI (s + 1))) k (tkW T n p) (nI (sk T n p))) (1001 + 2 * fs.length) 3 (nI (thr v0 fs + dov κ s + 1))) 0 x = gF C 0 x := fun x => by unfold setC2; rw [rFi (by omega), rFi (by omega), rFL, rFi (by omega)]
    have fcA : FC C C' := ((FC.sO.tr FC.s2).tr FC.sO).tr (FC.frx f2)
    rw [M_bindY T10 z10 (by omega) v10 q24'] at eM3
    refine ⟨C', _, eC.trans e1, eM3, fcA, (fm6.tr FM.s2).tr (FM.sF (Or.inr ⟨rfl, by decide, by decide, by decide⟩)), Or.inr ⟨_, a, h, g, pr, al, pt, (k, κ, s + 1) :: fs, hgo, ⟨c2, (L6.s2 (k := k) (w := tkW T n p) (q := nI (sk T n p))).cg rfl rfl (fun j => rfl)⟩, ⟨(f2.1 0 7 (by decide)).1.trans ((zC 7).trans hz.1), (rFk (by decide)).trans z10, (f2.1 0 8 (by decide)).1.trans ((zC 8).trans hz.2.2.1), (rFk (by decide)).trans ((setM2_F (by decide)).trans z4)⟩, ⟨by omega, hb.2⟩, (R6.bnd2 (M' := sF (setM2 S6 k (tkW T n p) (nI (sk T n p))) 200 32 (nI (thr v0 fs + dov κ s + 1))) t2 t3 q24' (by rw [rFk (by decide), setM2_F (by decide)]) (fun i j q1 q2 => by rw [rFi (by omega)]) (fun i j _ _ => rfl)).frx f2, D6.cg (fun x _ => ⟨by rw [rFi (by decide), setM2_F (by decide)], by rw [rFi (by decide), setM2_F (by decide)]⟩), (rFk (by decide)).trans ((setM2_F (by decide)).trans l6), ?_⟩⟩
    rw [rFy]; show _ = nI (thr v0 fs + dr κ (s + 1)); rw [t5, t1, Nat.add_assoc]
