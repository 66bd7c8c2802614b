theorem RD.body {C C' M M' : HS} {T : Nat → Int32} {n p' a h g a' h' g' : Nat} {pr al pt pr' al' pt' : Nat → Nat} {d v0 : Nat} (hR : RD C M a h g pr al pt d) (fc : FC C C') (fm : FM M M') (H : RW C' M' T n p' a' h' g' pr' al' pt' [] v0) : RD C' M' a' h' g' pr' al' pt' d := by
  obtain ⟨-, -, k1, k2, k3, k4⟩ := hR
  obtain ⟨-, -, hb, ⟨r1, r2, r3, r4, r5, r6, r7, -, -⟩, -⟩ := H
  refine ⟨hb.2, ⟨r1, r2.1, r3, r4, r5, r6, r7⟩, fc.2.1.trans k1, (fm.2.1 10 (by omega)).trans k2, k3, fun j hj => (k4 j hj).cg (fun i k h1 h2 => (fc.1 i k (by omega) (by omega)).1) (fun i k h1 h2 => (fc.1 i k (by omega) (by omega)).2) (fun i h1 h2 => (fm.1 i j (by omega)).1) (fm.1 216 j (by omega)).2 (fun k _ _ => ⟨(fm.1 217 k (by omega)).2, (fm.1 218 k (by omega)).1⟩)⟩
/-- behind the type -/
theorem DE {C M : HS} {T : Nat → Int32} {n p a h g : Nat} {pr al pt : Nat → Nat} {d m : Nat} {r : Int32} (hn : n ≤ 512) (hC : CV C T n p) (hL : LexM M T n p) (hz : ZZ C M) (hap : a ≤ p) (hR : RD C M a h g pr al pt d) (hd : d < 64) (hD : D2 C M d m) : ∃ C' M', f_P_readDefinition_b182 FU (6 + 3 * d) r (6 + 3 * d) C = some C' ∧ f_M_readDefinition_b384 FU (nI d) r (nI d) M = some M' ∧ OD C M C' M' T n p (d + 1) := by
  have hP := hR.2.1.1
  have hb := hR.1
  have r3 := hR.2.1.2.2.1
  have r4 := hR.2.1.2.2.2.1
  obtain ⟨x1, x2, x3, x4, x5, x6, x7⟩ := id hD
  have c1 : CV (sF (sF C (6 + 3 * d) 1 r) (6 + 3 * d) 3 (nI a)) T n p := hC.cg (fun k => by rw [rFi (by omega), rFi (by omega)]) (fun k => by rw [rFi (by omega), rFi (by omega)]) (fun _ => rfl) (fun _ => rfl)
  have P1 : PL (sF (sF C (6 + 3 * d) 1 r) (6 + 3 * d) 3 (nI a)) h g := hP
  have kC : ∀ i k, ¬ (i = 6 + 3 * d ∧ (k = 1 ∨ k = 3)) → gF (sF (sF C (6 + 3 * d) 1 r) (6 + 3 * d) 3 (nI a)) i k = gF C i k := fun i k q => by rw [rF, if_neg (by omega), rF, if_neg (by omega)]
  have kM : ∀ i k, ¬ (i = 212 ∧ k = d) → ¬ (i = 214 ∧ k = d) → ¬ (i = 200 ∧ k = 32) → gF (sF (sF (sF M 212 d r) 214 d (nI a)) 200 32 (nI m)) i k = gF M i k := fun i k q1 q2 q3 => by rw [rF, if_neg q3, rF, if_neg q2, rF, if_neg q1]
  have L1 : LexM (sF (sF (sF M 212 d r) 214 d (nI a)) 200 32 (nI m)) T n p := hL.cg (kM 200 2 (by omega) (by omega) (by omega)) (kM 200 5 (by omega) (by omega) (by omega)) (fun j => kM 201 j (by omega) (by omega) (by omega))
  have z1 : ZZ (sF (sF C (6 + 3 * d) 1 r) (6 + 3 * d) 3 (nI a)) (sF (sF (sF M 212 d r) 214 d (nI a)) 200 32 (nI m)) := ⟨(kC 0 7 (by omega)).trans hz.1, (kM 200 3 (by omega) (by omega) (by omega)).trans hz.2.1, (kC 0 8 (by omega)).trans hz.2.2.1, (kM 200 4 (by omega) (by omega) (by omega)).trans hz.2.2.2⟩
  have R1 : RD (sF (sF C (6 + 3 * d) 1 r) (6 + 3 * d) 3 (nI a)) (sF (sF (sF M 212 d r) 214 d (nI a)) 200 32 (nI m)) a h g pr al pt d := hR.cg (fun i k q => kC i k (by omega)) (fun _ _ _ => rfl) (fun _ _ _ => rfl) rfl (fun i k q => kM i k (by omega) (by omega) (by omega)) (fun _ _ _ => rfl)
  have Dn : D2 (sF (sF C (6 + 3 * d) 1 r) (6 + 3 * d) 3 (nI a)) (sF (sF (sF M 212 d r) 214 d (nI a)) 200 32 (nI m)) d m := by
    refine ⟨x1.cg (kC _ 0 (by omega)) (kM 211 d (by omega) (by omega) (by omega)), ?_, x3, (kC _ 2 (by omega)).trans x4, (kM 213 d (by omega) (by omega) (by omega)).trans x5, x6, fun i hi => ⟨(x7 i hi).1, ?_⟩⟩
    · rw [kM 215 d (by omega) (by omega) (by omega), kC _ 5 (by omega), x2]
    · rw [kM 218 _ (by omega) (by omega) (by omega), kC _ i (by omega), (x7 i hi).2]
  have oc : gF (sF (sF C (6 + 3 * d) 1 r) (6 + 3 * d) 3 (nI a)) (6 + 3 * d) 0 = gF C (6 + 3 * d) 0 := kC _ 0 (by omega)
  obtain ⟨C2, M2, e1, e2, fc, fm, out⟩ := DBODY hn c1 L1 z1 hap R1 hd x6 Dn.2.2.2.1 (by rw [oc]; exact x1.2) rfl
  have gc2 : GC C C2 := ((GC.sF (by omega)).tr (GC.sF (by omega))).tr (GC.fc fc)
  have gm2 : GM M M2 := (((GM.sF ⟨⟨by decide, by decide, by decide⟩, by omega⟩).tr (GM.sF ⟨⟨by decide, by decide, by decide⟩, by omega⟩)).tr (GM.sF ⟨⟨by decide, by decide, by decide⟩, by omega⟩)).tr (GM.fm fm)
  have eC : f_P_readDefinition_b182 FU (6 + 3 * d) r (6 + 3 * d) C = f_P_readDefinition_b205 FU C2 := by
    unfold f_P_readDefinition_b182
    rw [gdD hP hd _ _ rfl, lt_e, gdD (C := C) hP hd (sF C (6 + 3 * d) 1 r) _ rfl, lt_e, show gF (sF C (6 + 3 * d) 1 r) 0 2 = nI a by rw [rFi (by omega), r3], if_pos z1.1, e1, ob_s]
  have eM : f_M_readDefinition_b384 FU (nI d) r (nI d) M = f_M_readDefinition_b430 FU M2 := by
    unfold f_M_readDefinition_b384 f_M_readDefinition_b385 f_M_readDefinition_b427
    simp only [lt_e, cl_n (show d < 2 ^ 31 by omega), gd_pos (in_n hd (by decide))]
    rw [show gF (sF M 212 d r) 200 19 = nI a by rw [rFi (by decide), r4], show gF (sF (sF M 212 d r) 214 d (nI a)) 213 d = nI m by rw [rFi (by decide), rFi (by decide), x5], if_pos z1.2.1, kM 211 d (by omega) (by omega) (by omega), x1.1]
    rw [oc] at e2
    by_cases q : gF C (6 + 3 * d) 0 = 0
    · rw [if_pos q] at e2 ⊢
      rw [e2, ob_s]
    · rw [if_neg q] at e2 ⊢
      rw [e2, ob_s]
  rw [eC, eM]
  rcases out with F | ⟨p', a', h', g', pr', al', pt', hp', H⟩
  · obtain ⟨p2, hC2⟩ := F.2.1
    obtain ⟨h2, g2, hP2, hb2⟩ := F.2.2
    obtain ⟨C3, e3, tf⟩ := C_b205F hC2 F.1.c.1
    obtain ⟨M3, e4, tm⟩ := M_b430F F.1.m.1
    exact ⟨C3, M3, e3, e4, gc2.tr (GC.tf tf), gm2.tr (GM.tm tm), Or.inl (F.tf tf tm.f3 tm.f4)⟩
  · have R2 := R1.body fc fm H
    have Q2 : DQ C2 M2 d := by
      refine ⟨⟨m, Dn.cg (fun i k h1 h2 => (fc.1 i k (by omega) (by omega)).1) (fun i k h1 h2 => (fc.1 i k (by omega) (by omega)).2) (fun i h1 h2 => (fm.1 i d (by omega)).1) (fm.1 216 d (by omega)).2 (fun k _ _ => ⟨(fm.1 217 k (by omega)).2, (fm.1 218 k (by omega)).1⟩)⟩, ?_, ?_⟩
      · rw [(fm.1 212 d (by omega)).1, (fc.1 _ 1 (by omega) (by omega)).1, rFi (by decide), rFi (by decide), rFy, rFk (by decide), rFy]
      · rw [(fm.1 214 d (by omega)).1, (fc.1 _ 3 (by omega) (by omega)).1, rFi (by decide), rFy, rFy]
    obtain ⟨C3, M3, e3, e4, g3, m3, o3⟩ := DF_end H.1.1 H.1.2 ⟨H.2.1.1, H.2.1.2.1, H.2.1.2.2.1, H.2.1.2.2.2⟩ H.2.2.1.1 R2 hd Q2
    refine ⟨C3, M3, e3, e4, gc2.tr g3, gm2.tr m3, ?_⟩
    rcases o3 with F | ⟨p3, a3, h3, g3', pr3, al3, pt3, hp3, z⟩
    · exact Or.inl F
    · exact Or.inr ⟨p3, a3, h3, g3', pr3, al3, pt3, by omega, z⟩
/-- the type, and what is behind it -/
theorem DD {C M : HS} {T : Nat → Int32} {n p a h g : Nat} {pr al pt : Nat → Nat} {d m : Nat} (hn : n ≤ 512) (hC : CV C T n p) (hL : LexM M T n p) (hz : ZZ C M) (hap : a ≤ p) (hR : RD C M a h g pr al pt d) (hd : d < 64) (hD : D2 C M d m) : ∃ C' M', (ob2 (f_P_type FU (gF C (6 + 3 * d) 0) C) fun r28 S27 => f_P_readDefinition_b182 FU (6 + 3 * d) r28 (6 + 3 * d) S27) = some C' ∧ f_M_readDefinition_b312 FU (nI d) M = some M' ∧ OD C M C' M' T n p (d + 1) := by
  have hP := hR.2.1.1
  have hb := hR.1
  obtain ⟨M1, e1, fr1, L1, tk⟩ := M_tok hL hz.2.1
  have D1' := hD.frm fr1
  have i1 : gF M1 211 d = gF C (6 + 3 * d) 0 := D1'.1.1
  have eM : f_M_readDefinition_b312 FU (nI d) M = (if 0 < (gF M1 200 3) then f_M_readDefinition_b355 FU (nI d) M1 else ob (f_M_type FU M1) fun r33 => (if r33 < 0 then f_M_readDefinition_b359 FU (nI d) M1 else (if (gF C (6 + 3 * d) 0) = 0 then f_M_readDefinition_b355 FU (nI d) M1 else ob (f_M_type FU M1) fun r35 => (if (2 : Int32) ≤ r35 then f_M_readDefinition_b359 FU (nI d) M1 else f_M_readDefinition_b355 FU (nI d) M1)))) := by
    unfold f_M_readDefinition_b312
    rw [if_pos hz.2.1, e1, ob_s]
    simp only [gd_pos (in_n hd (by decide)), cl_n (show d < 2 ^ 31 by omega), i1]
  have b384F : ∀ (X : HS), ¬ gF X 200 3 = 0 → ∃ M', f_M_readDefinition_b384 FU (nI d) 0 (nI d) X = some M' ∧ TM X M' := fun X hX => by
    unfold f_M_readDefinition_b384
    rw [gd_pos (in_n hd (by decide)), lt_e]
    have t1 : TM X (sF X 212 (nI d).toNatClampNeg 0) := TM.sF (Or.inl ⟨by decide, by decide⟩)
    obtain ⟨M', e, t2⟩ := M_b385F (M := sF X 212 (nI d).toNatClampNeg 0) hd (by rw [t1.f3]; exact hX)
    exact ⟨M', e, t1.tr t2⟩
  rw [eM, C_type hC hz.1]
  rcases tk with ⟨t5, f5, f6⟩ | ⟨t5, T1, z3, z4⟩
  · have nz : ¬ gF M1 200 3 = 0 := by rw [f5]; exact (fcd_pos 5).2.2
    rw [if_pos (Or.inl (by unfold mwT; rw [if_neg (by omega)]; decide)), ob2_s, if_pos (by rw [f5]; exact (fcd_pos 5).1)]
    obtain ⟨C', e7, tf⟩ := C_b182F (y := mwT T n p) (hC.fl (s := tkS T n p) (q := sk T n p)) (hP.fl (s := tkS T n p) (q := sk T n p)) hd (fcd_pos _).2.2
    obtain ⟨M', e8, tm⟩ := b384F M1 nz
    refine ⟨C', M', e7, ?_, (GC.fc FC.fl).tr (GC.tf tf), (GM.frm fr1).tr (GM.tm tm), Or.inl (FTR.tf (M := M1) ⟨FT.mk5 t5 f5 f6, ⟨_, hC.fl⟩, h, g, hP.fl, hb⟩ tf tm.f3 tm.f4)⟩
    unfold f_M_readDefinition_b355 f_M_readDefinition_b360
    rw [M_mustF nz, ob2_s, if_neg (by rw [f5]; exact (fcd_pos 5).2.1), e8]
  · rw [if_neg (show ¬ 0 < gF M1 200 3 by rw [z3]; decide), M_type T1, ob_s, ob_s]
    have e359 : ∃ C' M', f_P_readDefinition_b182 FU (6 + 3 * d) (mwT T n p) (6 + 3 * d) (cfl C (tkS T n p) (sk T n p)) = some C' ∧ f_M_readDefinition_b359 FU (nI d) M1 = some M' ∧ OD C M C' M' T n p (d + 1) := by
      obtain ⟨C', e7, tf⟩ := C_b182F (y := mwT T n p) (hC.fl (s := tkS T n p) (q := sk T n p)) (hP.fl (s := tkS T n p) (q := sk T n p)) hd (fcd_pos _).2.2
      have nz : ¬ gF (mfl M1 (tkS T n p) (sk T n p)) 200 3 = 0 := (fcd_pos _).2.2
      obtain ⟨M', e8, tm⟩ := b384F _ nz
      refine ⟨C', M', e7, ?_, (GC.fc FC.fl).tr (GC.tf tf), ((GM.frm fr1).tr (GM.fm FM.fl)).tr (GM.tm tm), Or.inl (FTR.tf (M := mfl M1 (tkS T n p) (sk T n p)) ⟨FT.mk, ⟨_, hC.fl⟩, h, g, hP.fl, hb⟩ tf tm.f3 tm.f4)⟩
      unfold f_M_readDefinition_b359 f_M_readDefinition_b360
      rw [M_mustN T1 z3 (Or.inl rfl), ob2_s, if_neg (show ¬ gF (mfl M1 (tkS T n p) (sk T n p)) 200 3 ≤ 0 from (fcd_pos _).2.1), e8]
    have le2 : ((2 : Int32) ≤ mwT T n p) ↔ ¬ mwT T n p ≤ 1 := by
      rw [Int32.le_iff_toInt_le, Int32.le_iff_toInt_le]
      have a2 : (2 : Int32).toInt = 2 := rfl
      have a1 : (1 : Int32).toInt = 1 := rfl
      omega
    by_cases hT : mwT T n p < 0
    · rw [if_pos (Or.inl hT), ob2_s, if_pos hT]
      exact e359
    · rw [if_neg hT]
      have hT2 : tkS T n p = 2 := by
        refine Decidable.byContradiction (fun z => hT ?_)
        unfold mwT
        rw [if_neg z]
        decide
      have e355 : ¬ (mwT T n p < 0 ∨ (¬ gF C (6 + 3 * d) 0 = 0 ∧ ¬ mwT T n p ≤ 1)) → ∃ C' M', (ob2 (ob (f_X_next FU C) fun S6 => some (mwT T n p, S6)) fun r28 S27 => f_P_readDefinition_b182 FU (6 + 3 * d) r28 (6 + 3 * d) S27) = some C' ∧ f_M_readDefinition_b355 FU (nI d) M1 = some M' ∧ OD C M C' M' T n p (d + 1) := fun _ => by
        obtain ⟨C1, e2, c1, f1⟩ := C_next hC
        have hgo := tkE_go (T := T) hC.2.1 (by omega)
        obtain ⟨C', M', y1, y2, y3, y4, y5⟩ := DE (r := mwT T n p) hn c1 L1 ⟨(f1.1 0 7 (by decide)).1.trans hz.1, z3, (f1.1 0 8 (by decide)).1.trans hz.2.2.1, z4.trans hz.2.2.2⟩ (by omega) ((hR.frx f1).frm fr1) hd ((hD.frx f1).frm fr1)
        refine ⟨C', M', ?_, ?_, (GC.frx f1).tr y3, (GM.frm fr1).tr y4, ?_⟩
        · rw [e2, ob_s, ob2_s, y1]
        · unfold f_M_readDefinition_b355 f_M_readDefinition_b360
          rw [M_mustY T1 z3 (by decide) (by omega), ob2_s, if_pos (by rw [z3]; exact Int32.le_refl _), M_type T1, ob_s, y2]
        · rcases y5 with F | ⟨p3, a3, h3, g3', pr3, al3, pt3, hp3, z⟩
          · exact Or.inl F
          · exact Or.inr ⟨p3, a3, h3, g3', pr3, al3, pt3, by omega, z⟩
      by_cases q0 : gF C (6 + 3 * d) 0 = 0
      · have nb : ¬ (mwT T n p < 0 ∨ (¬ gF C (6 + 3 * d) 0 = 0 ∧ ¬ mwT T n p ≤ 1)) := fun q => q.elim hT (fun z => z.1 q0)
        rw [if_neg nb, if_pos q0]
        exact e355 nb
      · rw [if_neg q0]
        by_cases q2 : (2 : Int32) ≤ mwT T n p
        · rw [if_pos (Or.inr ⟨q0, le2.mp q2⟩), ob2_s, if_pos q2]
          exact e359
        · have nb : ¬ (mwT T n p < 0 ∨ (¬ gF C (6 + 3 * d) 0 = 0 ∧ ¬ mwT T n p ≤ 1)) := fun q => q.elim hT (fun z => q2 (le2.mpr z.2))
          rw [if_neg nb, if_neg q2]
          exact e355 nb
