-- the head of a definition
theorem DB {C M : HS} {T : Nat → Int32} {n p a h g : Nat} {pr al pt : Nat → Nat} {d : Nat} (hn : n ≤ 512) (hC : CV C T n p) (hM : MT M T n p) (hs : tkS T n p = 2) (hz : ZZ C M) (hap : a ≤ p) (hR : RD C M a h g pr al pt d) (hd : d < 64) (hD : D1 C M d) : ∃ C' M', f_P_readDefinition_b86 FU (6 + 3 * d) C = some C' ∧ f_M_readDefinition_b179 FU (nI d) 1 M = some M' ∧ OD C M C' M' T n p (d + 1) := by
  have hP := hR.2.1.1
  have hb := hR.1
  have hp := hC.2.1
  have hgo := tkE_go (T := T) hp (by omega)
  obtain ⟨-, he⟩ := tkE_le (T := T) hp
  -- the component
  have t1 : TF C (sF (sL C (6 + 3 * d) 4 (tkW T n p)) (6 + 3 * d) 5 (nI (sk T n p))) := (TF.sL ⟨by omega, by omega⟩).tr (TF.sF (Or.inl ⟨by omega, by omega⟩))
  have c1 := t1.cv hC
  have z17 : gF (sF (sL C (6 + 3 * d) 4 (tkW T n p)) (6 + 3 * d) 5 (nI (sk T n p))) 0 7 = 0 := t1.f7.trans hz.1
  obtain ⟨C2, e2, c2, f2⟩ := C_next c1
  have P2 : PL C2 h g := (t1.pl hP).cg (fun x => (f2.1 3 x (by decide)).2.2) (fun x => (f2.1 5 x (by decide)).2.2) f2.2.2.2
  have z27 : gF C2 0 7 = 0 := (f2.1 0 7 (by decide)).1.trans z17
  have z28 : gF C2 0 8 = -1 := (f2.1 0 8 (by decide)).1.trans (t1.f8.trans hz.2.2.1)
  have gc2 : GC C C2 := (GC.tf t1).tr (GC.frx f2)
  have eC : ∀ X, f_P_pass FU 500 C2 = some X → PL X h g → f_P_readDefinition_b86 FU (6 + 3 * d) C = f_P_readDefinition_b127 FU FU (6 + 3 * d) (sF X (6 + 3 * d) 2 0) := fun X hX pX => by
    unfold f_P_readDefinition_b86
    have ep : f_P_pass FU 502 (sF (sL C (6 + 3 * d) 4 (tkW T n p)) (6 + 3 * d) 5 (nI (sk T n p))) = some C2 := (C_passY (x := 2) c1 z17 hs).trans e2
    rw [gdD hP hd _ _ rfl, lt_e, gdD (C := C) hP hd (sL C (6 + 3 * d) 4 (gL C 1 5)) _ rfl, lt_e, rFL, hC.2.2.2.2.1, hC.2.2.2.2.2.2.2.1 hs, ep, ob_s, hX, ob_s, gdD pX hd _ _ rfl, lt_e]
  -- the model
  have tm1 : TM M (sF (sF (sL M 216 d (tkW T n p)) 215 d (nI (sk T n p))) 213 d 0) := ((TM.sL ⟨by decide, by decide⟩).tr (TM.sF (Or.inl ⟨by decide, by decide⟩))).tr (TM.sF (Or.inl ⟨by decide, by decide⟩))
  have L1 : LexM (sF (sF (sL M 216 d (tkW T n p)) 215 d (nI (sk T n p))) 213 d 0) T n (tkE T n p) := hM.lex.cg (tm1.1 200 2 (by omega) (by omega)) (tm1.1 200 5 (by omega) (by omega)) (fun j => tm1.1 201 j (by omega) (by omega))
  have z13 : gF (sF (sF (sL M 216 d (tkW T n p)) 215 d (nI (sk T n p))) 213 d 0) 200 3 = 0 := tm1.f3.trans hz.2.1
  obtain ⟨M2, e3, fr2, L2, tk⟩ := M_tok L1 z13
  have gm2 : GM M M2 := (GM.tm tm1).tr (GM.frm fr2)
  have eM : f_M_readDefinition_b179 FU (nI d) 1 M = (if (gF M2 200 6) = 0 then f_M_readDefinition_b234 FU (nI d) (1 : Int32) M2 else f_M_readDefinition_b234 FU (nI d) (0 : Int32) M2) := by
    unfold f_M_readDefinition_b179
    rw [M_mustY hM hz.2.1 (by decide) (by omega), ob2_s]
    simp only [lt_e, gd_pos (in_n hd (by decide)), cl_n (show d < 2 ^ 31 by omega), rFL, hM.2.2.2.2.2.1, hM.2.2.2.2.2.2.2.1 hs]
    rw [if_pos z13, e3, ob_s]
  unfold f_M_readDefinition_b234 f_M_readDefinition_b238 at eM
  simp only [lt_e] at eM
  have bad : tkS T n (tkE T n p) ≠ 0 → ∃ C', f_P_readDefinition_b86 FU (6 + 3 * d) C = some C' ∧ TF (cfl C2 (tkS T n (tkE T n p)) (sk T n (tkE T n p))) C' := fun q => by
    have t3 : TF (cfl C2 (tkS T n (tkE T n p)) (sk T n (tkE T n p))) (sF (cfl C2 (tkS T n (tkE T n p)) (sk T n (tkE T n p))) (6 + 3 * d) 2 0) := TF.sF (Or.inl ⟨by omega, by omega⟩)
    obtain ⟨C', e, t4⟩ := C_b127F 9999 (t3.cv c2.fl) (t3.pl P2.fl) hd (by rw [t3.f7]; exact (fcd_pos _).2.2)
    exact ⟨C', (eC _ (C_passN (x := 0) c2 (by decide) z27 q) P2.fl).trans e, t3.tr t4⟩
  rcases tk with ⟨t5, f5, f6⟩ | ⟨t5, T2, z3, z4⟩
  · have nz : ¬ gF M2 200 3 = 0 := by rw [f5]; exact (fcd_pos 5).2.2
    obtain ⟨C', e7, tf⟩ := bad (by omega)
    obtain ⟨M', e8, tm⟩ := M_b240F (x := 1) 9999 hd nz
    rw [M_mustF nz, M_mustF nz, ob2_s, ite_self] at eM
    exact ⟨C', M', e7, eM.trans e8, OD.flt (gc2.tr (GC.fc FC.fl)) gm2 ⟨FT.mk5 t5 f5 f6, ⟨_, c2.fl⟩, h, g, P2.fl, hb⟩ tf tm⟩
  · have t6 := T2.2.2.2.2.2.2.1
    have hs6 := tkS_lt T n (tkE T n p)
    rw [t6] at eM
    by_cases q0 : tkS T n (tkE T n p) = 0
    · rw [q0, if_pos (show nI 0 = (0 : Int32) from rfl), M_mustY T2 z3 (by decide) (by omega), ob2_s] at eM
      obtain ⟨C3, e4, c3, f3⟩ := C_next c2
      have hgo2 := tkE_go (T := T) he (by omega)
      have P3 : PL C3 h g := P2.cg (fun x => (f3.1 3 x (by decide)).2.2) (fun x => (f3.1 5 x (by decide)).2.2) f3.2.2.2
      have eC3 := eC C3 ((C_passY (x := 0) c2 z27 q0).trans e4) P3
      have kC : ∀ i k, i ≠ 1 → ¬ (i = 6 + 3 * d ∧ (k = 2 ∨ k = 5)) → gF (sF C3 (6 + 3 * d) 2 0) i k = gF C i k := fun i k h1 h2 => by rw [rF, if_neg (by omega), (f3.1 i k h1).1, (f2.1 i k h1).1, rF, if_neg (by omega), rFL]
      have kL : ∀ i k, i ≠ 1 → ¬ (i = 6 + 3 * d ∧ k = 4) → gL (sF C3 (6 + 3 * d) 2 0) i k = gL C i k := fun i k h1 h2 => by rw [rLF, (f3.1 i k h1).2.1, (f2.1 i k h1).2.1, rLF, rL, if_neg h2]
      have kM : ∀ i k, i ≠ 200 → ¬ (i = 215 ∧ k = d) → ¬ (i = 213 ∧ k = d) → gF M2 i k = gF M i k := fun i k h1 h2 h3 => by rw [(fr2.1 i k h1).1, rF, if_neg h3, rF, if_neg h2, rFL]
      have kN : ∀ i k, i ≠ 200 → ¬ (i = 216 ∧ k = d) → gL M2 i k = gL M i k := fun i k h1 h2 => by rw [(fr2.1 i k h1).2, rLF, rLF, rL, if_neg h2]
      have k2 : ∀ k, k = 19 ∨ k = 10 → gF M2 200 k = gF M 200 k := fun k hk => by rw [fr2.2.1 k (by omega) (by omega) (by omega) (by omega) (by omega) (by omega), rFi (by decide), rFi (by decide), rFL]
      have R3 : RD (sF C3 (6 + 3 * d) 2 0) M2 a h g pr al pt d := by
        refine hR.cg (fun i k q => kC i k (by omega) (by omega)) (fun i k q => kL i k (by omega) (by omega)) (fun i k q => ?_) ?_ (fun i k q => ?_) (fun i k q => kN i k (by omega) (by omega))
        · rw [rXF, (f3.1 i k (by omega)).2.2, (f2.1 i k (by omega)).2.2, rXF, rXL]
        · show C3.2.2.2 = _; rw [f3.2.2.2, f2.2.2.2]; rfl
        · by_cases e : i = 200
          · rw [e]; exact k2 k (by omega)
          · exact kM i k e (by omega) (by omega)
      have D3 : D2 (sF C3 (6 + 3 * d) 2 0) M2 d 0 := by
        refine ⟨hD.cg (kC _ 0 (by omega) (by omega)) (kM 211 d (by decide) (by omega) (by omega)), ?_, ?_, rFy, ?_, by decide, fun i hi => absurd hi (by omega)⟩
        · rw [(fr2.1 215 d (by decide)).1, rFi (by decide), rFy, rFk (by decide), (f3.1 _ _ (by omega)).1, (f2.1 _ _ (by omega)).1, rFy]
        · rw [(fr2.1 216 d (by decide)).2, rLF, rLF, rLy, rLF, (f3.1 _ _ (by omega)).2.1, (f2.1 _ _ (by omega)).2.1, rLF, rLy]
        · rw [(fr2.1 213 d (by decide)).1, rFy]; rfl
      have cc : CV (sF C3 (6 + 3 * d) 2 0) T n (tkE T n (tkE T n p)) := c3.cg (fun k => by rw [rFi (by omega)]) (fun k => by rw [rFi (by omega)]) (fun _ => rfl) (fun _ => rfl)
      have hpn := cc.2.1
      obtain ⟨C', M', y1, y2, y3⟩ := DC hn hd (n - tkE T n (tkE T n p) + 1) (by omega) cc L2 ⟨by rw [rFi (by omega), (f3.1 0 7 (by decide)).1, z27], z3, by rw [rFi (by omega), (f3.1 0 8 (by decide)).1, z28], z4.trans (tm1.f4.trans hz.2.2.2)⟩ (by omega) R3 D3 FU FU (by show _ ≤ 10000; omega) (by show _ ≤ 10000; omega)
      exact ⟨C', M', eC3.trans y1, eM.trans y2, OD.mono ((gc2.tr (GC.frx f3)).tr (GC.sF (by omega))) gm2 (by omega) y3⟩
    · rw [if_neg (show ¬ nI (tkS T n (tkE T n p)) = (0 : Int32) from nI_ne (b := 0) (by omega) (by decide) q0), M_mustN T2 z3 (Or.inl rfl), ob2_s] at eM
      obtain ⟨C', e7, tf⟩ := bad q0
      have nz : ¬ gF (mfl M2 (tkS T n (tkE T n p)) (sk T n (tkE T n p))) 200 3 = 0 := (fcd_pos _).2.2
      obtain ⟨M', e8, tm⟩ := M_b240F (x := 1) 9999 hd nz
      exact ⟨C', M', e7, eM.trans e8, OD.flt (gc2.tr (GC.fc FC.fl)) (gm2.tr (GM.fm FM.fl)) ⟨FT.mk, ⟨_, c2.fl⟩, h, g, P2.fl, hb⟩ tf tm⟩
theorem M_b178 {M : HS} {T : Nat → Int32} {n p d : Nat} (h : MT M T n p) (h0 : gF M 200 3 = 0) (hd : d < 64) : ∃ M', f_M_readDefinition_b178 FU (nI d) M = some M' ∧ TM (mfl M (tkS T n p) (sk T n p)) M' := by
  have nz : ¬ gF (mfl M (tkS T n p) (sk T n p)) 200 3 = 0 := (fcd_pos _).2.2
  have e : f_M_readDefinition_b178 FU (nI d) M = f_M_readDefinition_b179 FU (nI d) 0 (mfl M (tkS T n p) (sk T n p)) := by
    unfold f_M_readDefinition_b178 f_M_readDefinition_b179
    rw [M_mustN h h0 (Or.inl rfl), M_mustF nz]
  rw [e]
  exact M_b179F hd nz
theorem M_b116F {M : HS} {d : Nat} (hd : d < 64) (h0 : ¬ gF M 200 3 = 0) (h1 : 0 < gF M 200 3) : ∃ M', f_M_readDefinition_b116 FU (nI d) M = some M' ∧ TM M M' := by
  have := M_tw (M := M) (d := d) (by omega) FU 0 false (Nat.zero_le _) (by show d - 0 < 10000; omega)
  rw [show b32 false = (0 : Int32) from rfl, show nI 0 = (0 : Int32) from rfl, if_pos h1] at this
  unfold f_M_readDefinition_b116
  rw [lt_e, lt_e, this]
  unfold f_M_readDefinition_b174
  exact M_b179F hd h0
/-- the name, and what is behind it -/
theorem DA {C M : HS} {T : Nat → Int32} {n p a h g : Nat} {pr al pt : Nat → Nat} {d : Nat} (hn : n ≤ 512) (hC : CV C T n p) (hM : MT M T n p) (hs : tkS T n p = 2) (hz : ZZ C M) (hap : a ≤ p) (hR : RD C M a h g pr al pt d) (hd : d < 64) (oc : gF C (6 + 3 * d) 0 = 0 ∨ gF C (6 + 3 * d) 0 = 1) : ∃ C' M', f_P_readDefinition_b47 FU (6 + 3 * d) C = some C' ∧ f_M_readDefinition_b104 FU (nI d) (gF C (6 + 3 * d) 0) (nI d) M = some M' ∧ OD C M C' M' T n p (d + 1) := by
  have hP := hR.2.1.1
  have hb := hR.1
  have hp := hC.2.1
  have hgo := tkE_go (T := T) hp (by omega)
  obtain ⟨-, he⟩ := tkE_le (T := T) hp
  obtain ⟨C1, e1, c1, f1⟩ := C_next hC
  have P1 : PL C1 h g := hP.cg (fun x => (f1.1 3 x (by decide)).2.2) (fun x => (f1.1 5 x (by decide)).2.2) f1.2.2.2
  have z17 : gF C1 0 7 = 0 := (f1.1 0 7 (by decide)).1.trans hz.1
  have z18 : gF C1 0 8 = -1 := (f1.1 0 8 (by decide)).1.trans hz.2.2.1
  have eC : f_P_readDefinition_b47 FU (6 + 3 * d) C = (if mwF T n (tkE T n p) = 0 then f_P_readDefinition_b82 FU (6 + 3 * d) C1 else ob (f_P_isDefined FU (gL C1 1 5) C1) fun r12 => (if r12 = 0 then f_P_readDefinition_b86 FU (6 + 3 * d) C1 else f_P_readDefinition_b82 FU (6 + 3 * d) C1)) := by
    unfold f_P_readDefinition_b47
    have ep : f_P_pass FU 502 C = some C1 := (C_passY (x := 2) hC hz.1 hs).trans e1
    rw [ep, ob_s, if_pos z17, C_isName c1, ob_s]
  have bad : ∃ C', f_P_readDefinition_b82 FU (6 + 3 * d) C1 = some C' ∧ TF (cfl C1 (tkS T n (tkE T n p)) (sk T n (tkE T n p))) C' := by
    unfold f_P_readDefinition_b82
    rw [C_refuse c1 z17, ob_s]
    exact C_b86F c1.fl P1.fl hd (fcd_pos _).2.2
  obtain ⟨CB, eB, tB⟩ := bad
  -- the model
  have tm1 : TM M (sF M 211 d (gF C (6 + 3 * d) 0)) := TM.sF (Or.inl ⟨by decide, by decide⟩)
  have L1 : LexM (sF M 211 d (gF C (6 + 3 * d) 0)) T n (tkE T n p) := hM.lex.cg (rFi (by decide)) (rFi (by decide)) (fun j => rFi (by decide))
  have z13 : gF (sF M 211 d (gF C (6 + 3 * d) 0)) 200 3 = 0 := tm1.f3.trans hz.2.1
  obtain ⟨M2, e3, fr2, L2, tk⟩ := M_tok L1 z13
  have gm2 : GM M M2 := (GM.tm tm1).tr (GM.frm fr2)
  have gc1 : GC C C1 := GC.frx f1
  have eM : f_M_readDefinition_b104 FU (nI d) (gF C (6 + 3 * d) 0) (nI d) M = f_M_readDefinition_b116 FU (nI d) M2 := by
    unfold f_M_readDefinition_b104
    rw [gd_pos (in_n hd (by decide)), lt_e, cl_n (by omega), if_pos z13, e3, ob_s]
  rw [eC, eM]
  rcases tk with ⟨t5, f5, f6⟩ | ⟨t5, T2, z3, z4⟩
  · obtain ⟨M', e8, tm⟩ := M_b116F hd (by rw [f5]; exact (fcd_pos 5).2.2) (by rw [f5]; exact (fcd_pos 5).1)
    rw [mwF_no (by omega), if_pos rfl]
    exact ⟨CB, M', eB, e8, OD.flt (gc1.tr (GC.fc FC.fl)) gm2 ⟨FT.mk5 t5 f5 f6, ⟨_, c1.fl⟩, h, g, P1.fl, hb⟩ tB tm⟩
  · have eT := M_tw (M := M2) (d := d) (by omega) FU 0 false (Nat.zero_le _) (by show d - 0 < 10000; omega)
    rw [show b32 false = (0 : Int32) from rfl, show nI 0 = (0 : Int32) from rfl, if_neg (show ¬ 0 < gF M2 200 3 by rw [z3]; decide), M_own T2, ob_s] at eT
    unfold f_M_readDefinition_b116
    rw [lt_e, lt_e, eT]
    obtain ⟨MB, e8, tm⟩ := M_b178 T2 z3 hd
    have badE : OD C M CB MB T n p (d + 1) := OD.flt (gc1.tr (GC.fc FC.fl)) (gm2.tr (GM.fm FM.fl)) ⟨FT.mk, ⟨_, c1.fl⟩, h, g, P1.fl, hb⟩ tB tm
    rcases mwF_01 T n (tkE T n p) with hF | hF
    · rw [hF, if_pos rfl, if_pos rfl]
      exact ⟨CB, MB, eB, e8, badE⟩
    · have h2 := own2 hF
      simp only [hF, if_neg (show ¬ (1 : Int32) = 0 by decide)]
      have R2 : RD C1 M2 a h g pr al pt d := RD.frm (M := sF M 211 d (gF C (6 + 3 * d) 0)) ((hR.frx f1).cg (C' := C1) (M' := sF M 211 d (gF C (6 + 3 * d) 0)) (fun _ _ _ => rfl) (fun _ _ _ => rfl) (fun _ _ _ => rfl) rfl (fun i k q => by rw [rF, if_neg (by omega)]) (fun _ _ _ => rfl)) fr2
      have eDf := C_def (w := gL C1 1 5) P1 (show d ≤ 64 by omega) R2.2.2.1 FU 0 false (Nat.zero_le _) (by show d - 0 < 10000; omega)
      rw [show b32 false = (0 : Int32) from rfl, show nI 0 = (0 : Int32) from rfl] at eDf
      have eDd : f_P_isDefined FU (gL C1 1 5) C1 = _ := eDf
      have ea : anyB (fun i => decide (gL C1 (6 + 3 * i) 4 = gL C1 1 5)) (d - 0) 0 = anyB (fun i => decide (gL M2 216 i = gL M2 200 8)) (d - 0) 0 := anyB_cg _ _ (fun i _ hi => by
        obtain ⟨⟨m, w⟩, -⟩ := R2.2.2.2.2.2 i (by omega)
        rw [w.2.2.1, c1.2.2.2.2.2.2.2.1 h2, T2.2.2.2.2.2.2.2.1 h2])
      rw [eDd, ob_s, ea]
      by_cases q : b32 (false || anyB (fun i => decide (gL M2 216 i = gL M2 200 8)) (d - 0) 0) = 0
      · rw [if_pos q, if_pos q]
        have D2' : D1 C1 M2 d := ⟨by rw [(fr2.1 211 d (by decide)).1, rFy, (f1.1 _ _ (by omega)).1], by rw [(f1.1 _ _ (by omega)).1]; exact oc⟩
        obtain ⟨C', M', y1, y2, y3⟩ := DB hn c1 T2 h2 ⟨z17, z3, z18, z4.trans (tm1.f4.trans hz.2.2.2)⟩ (by omega) R2 hd D2'
        exact ⟨C', M', y1, y2, OD.mono gc1 gm2 (by omega) y3⟩
      · rw [if_neg q, if_neg q]
        exact ⟨CB, MB, eB, e8, badE⟩
