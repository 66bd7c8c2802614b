-- a definition, from its parenthesis
theorem M_b104F {M : HS} {d : Nat} (hd : d < 64) (h0 : ¬ gF M 200 3 = 0) (h1 : 0 < gF M 200 3) : ∃ M', f_M_readDefinition_b103 FU (nI d) (nI d) M = some M' ∧ TM M M' := by
  unfold f_M_readDefinition_b103 f_M_readDefinition_b104
  have t1 : TM M (sF M 211 d 0) := TM.sF (Or.inl ⟨by decide, by decide⟩)
  rw [gd_pos (in_n hd (by decide)), lt_e, cl_n (by omega), if_neg (by rw [t1.f3]; exact h0)]
  obtain ⟨M', e, t2⟩ := M_b116F (M := sF M 211 d 0) hd (by rw [t1.f3]; exact h0) (by rw [t1.f3]; exact h1)
  exact ⟨M', e, t1.tr t2⟩
theorem DEF0 {C M : HS} {T : Nat → Int32} {n p a h g : Nat} {pr al pt : Nat → Nat} {d : Nat} (hn : n ≤ 512) (hC : CV C T n p) (hM : MT M T n p) (hs : tkS T n p = 0) (hz : ZZ C M) (hap : a ≤ p) (hR : RD C M a h g pr al pt d) (hd : d < 64) : ∃ C' M', f_P_readDefinition FU C = some C' ∧ f_M_readDefinition FU M = some M' ∧ OD C M C' M' T n p (d + 1) := by
  have hP := hR.2.1.1
  have hb := hR.1
  have hp := hC.2.1
  have hgo := tkE_go (T := T) hp (by omega)
  obtain ⟨-, he⟩ := tkE_le (T := T) hp
  obtain ⟨C1, e1, c1, f1⟩ := C_next hC
  have P1 : PL C1 h g := hP.cg (fun x => (f1.1 3 x (by decide)).2.2) (fun x => (f1.1 5 x (by decide)).2.2) f1.2.2.2
  have z17 : gF C1 0 7 = 0 := (f1.1 0 7 (by decide)).1.trans hz.1
  have z18 : gF C1 0 8 = -1 := (f1.1 0 8 (by decide)).1.trans hz.2.2.1
  obtain ⟨M1, e2, fr1, L1, tk⟩ := M_tok hM.lex hz.2.1
  have gc1 : GC C C1 := GC.frx f1
  have gm1 : GM M M1 := GM.frm fr1
  have R1 := (hR.frx f1).frm fr1
  have hw0 := C_isWord (a := 0) c1 (by decide)
  have hw1 : ∀ v, f_P_isWord FU 301 (sF C1 (6 + 3 * d) 0 v) = some (if tkS T n (tkE T n p) = 2 ∧ tkW T n (tkE T n p) = spc 301 then 1 else 0) := fun v => C_isWord (a := 1) (C := sF C1 (6 + 3 * d) 0 v) (c1.cg (fun k => by rw [rFi (by omega)]) (fun k => by rw [rFi (by omega)]) (fun _ => rfl) (fun _ => rfl)) (by decide)
  simp only [Nat.add_zero] at hw0
  -- the component, by the word
  have tfv : ∀ v, TF C1 (sF C1 (6 + 3 * d) 0 v) := fun v => TF.sF (Or.inl ⟨by omega, by omega⟩)
  have eC : ∀ v, f_P_isWord FU 300 C1 = some v → (v = 0 ∨ v = 1) → f_P_readDefinition FU C = (if v = 0 then ob (f_P_isWord FU 301 (sF C1 (6 + 3 * d) 0 v)) fun r8 => (if r8 = 0 then ob (f_P_refuse (sF C1 (6 + 3 * d) 0 v)) fun S9 => f_P_readDefinition_b47 FU (6 + 3 * d) S9 else f_P_readDefinition_b47 FU (6 + 3 * d) (sF C1 (6 + 3 * d) 0 v)) else f_P_readDefinition_b47 FU (6 + 3 * d) (sF C1 (6 + 3 * d) 0 v)) := fun v hv v01 => by
    unfold f_P_readDefinition
    rw [e1, ob_s, R1.2.2.1, gd_pos (in_n hd (by decide)), hv, ob_s, cl_n (by omega), gdD P1 hd _ _ rfl, gd_pos v01, lt_e, gdD (C := C1) P1 hd (sF C1 (6 + 3 * d) 0 v) _ rfl, rFy]
  have eM0 : f_M_readDefinition FU M = (if 0 < (gF M1 200 3) then f_M_readDefinition_b69 FU (nI d) M1 else ob (f_M_is FU 335 M1) fun r5 => (if r5 = 0 then ob (f_M_is FU 336 M1) fun r6 => (if r6 = 0 then f_M_readDefinition_b74 FU (nI d) (0 : Int32) M1 else f_M_readDefinition_b69 FU (nI d) M1) else f_M_readDefinition_b69 FU (nI d) M1)) := by
    unfold f_M_readDefinition f_M_readDefinition_b22
    rw [hM.2.2.2.2.2.2.1, hs, if_pos (show nI 0 = (0 : Int32) from rfl), hR.2.2.2.1, if_neg (show ¬ (64 : Int32) ≤ nI d from fun q => by rw [show (64 : Int32) = nI 64 from rfl, nI_leI (by decide) (by omega)] at q; omega), M_mustY hM hz.2.1 (by decide) (by omega), ob2_s, if_pos (by rw [hz.2.1]; exact Int32.le_refl _), hR.2.2.2.1, lt_e, e2, ob_s]
  -- a word that is none
  have badC : ¬ (tkS T n (tkE T n p) = 2 ∧ tkW T n (tkE T n p) = spc 300) → ¬ (tkS T n (tkE T n p) = 2 ∧ tkW T n (tkE T n p) = spc 301) → ∃ C', f_P_readDefinition FU C = some C' ∧ TF (cfl (sF C1 (6 + 3 * d) 0 0) (tkS T n (tkE T n p)) (sk T n (tkE T n p))) C' := fun n0 n1 => by
    rw [if_neg n0] at hw0
    have h1 := hw1 0
    rw [if_neg n1] at h1
    rw [eC 0 hw0 (Or.inl rfl), if_pos rfl, h1, ob_s, if_pos rfl, C_refuse ((tfv 0).cv c1) ((tfv 0).f7.trans z17), ob_s]
    exact C_b47F ((tfv 0).cv c1).fl ((tfv 0).pl P1).fl hd (fcd_pos _).2.2
  rcases tk with ⟨t5, f5, f6⟩ | ⟨t5, T1, z3, z4⟩
  · have nz : ¬ gF M1 200 3 = 0 := by rw [f5]; exact (fcd_pos 5).2.2
    have nz1 : 0 < gF M1 200 3 := by rw [f5]; exact (fcd_pos 5).1
    obtain ⟨C', e7, tf⟩ := badC (by omega) (by omega)
    obtain ⟨M', e8, tm⟩ := M_b104F hd nz nz1
    refine ⟨C', M', e7, ?_, OD.flt ((gc1.tr (GC.tf (tfv 0))).tr (GC.fc FC.fl)) gm1 ⟨FT.mk5 t5 f5 f6, ⟨_, ((tfv 0).cv c1).fl⟩, h, g, ((tfv 0).pl P1).fl, hb⟩ tf tm⟩
    rw [eM0, if_pos nz1]
    unfold f_M_readDefinition_b69 f_M_readDefinition_b74
    rw [M_mustF nz, ob2_s, if_neg nz, e8]
  · have i5 := is_e (a := 35) T1 (by decide) (by decide)
    have i6 := is_e (a := 36) T1 (by decide) (by decide)
    simp only [Nat.reduceAdd] at i5 i6
    rw [spM3.1] at i5
    rw [spM3.2.1] at i6
    rw [if_neg (show ¬ 0 < gF M1 200 3 by rw [z3]; decide), i5, i6, ob_s, ob_s] at eM0
    have z1 : ZZ C1 M1 := ⟨z17, z3, z18, z4.trans hz.2.2.2⟩
    have go : ∀ v : Int32, (v = 0 ∨ v = 1) → tkS T n (tkE T n p) = 2 → ∃ C' M', f_P_readDefinition_b47 FU (6 + 3 * d) (sF C1 (6 + 3 * d) 0 v) = some C' ∧ f_M_readDefinition_b104 FU (nI d) v (nI d) M1 = some M' ∧ OD C M C' M' T n p (d + 1) := fun v hv h2 => by
      have Rv : RD (sF C1 (6 + 3 * d) 0 v) M1 a h g pr al pt d := R1.cg (fun i k q => by rw [rF, if_neg (by omega)]) (fun _ _ _ => rfl) (fun _ _ _ => rfl) rfl (fun _ _ _ => rfl) (fun _ _ _ => rfl)
      obtain ⟨C', M', y1, y2, y3⟩ := DA hn ((tfv v).cv c1) T1 h2 ⟨(tfv v).f7.trans z17, z3, (tfv v).f8.trans z18, z4.trans hz.2.2.2⟩ (by omega) Rv hd (by rw [rFy]; exact hv)
      rw [rFy] at y2
      exact ⟨C', M', y1, y2, OD.mono (gc1.tr (GC.tf (tfv v))) gm1 (by omega) y3⟩
    by_cases q1 : tkS T n (tkE T n p) = 2 ∧ tkW T n (tkE T n p) = spc 300
    · -- chg
      have nf : ¬ (tkS T n (tkE T n p) = 2 ∧ tkW T n (tkE T n p) = spc 301) := fun z => absurd (q1.2.symm.trans z.2) (by decide +kernel)
      rw [if_pos q1] at hw0
      rw [if_neg nf, if_pos rfl, if_pos q1, if_neg (by decide)] at eM0
      obtain ⟨C', M', y1, y2, y3⟩ := go 1 (Or.inr rfl) q1.1
      refine ⟨C', M', ?_, ?_, y3⟩
      · rw [eC 1 hw0 (Or.inr rfl), if_neg (by decide), y1]
      · rw [eM0]
        unfold f_M_readDefinition_b69 f_M_readDefinition_b74
        rw [M_mustY T1 z3 (by decide) (by omega), ob2_s, if_pos z3, i6, if_pos q1, ob_s, if_neg (by decide), y2]
    · rw [if_neg q1] at hw0
      by_cases q2 : tkS T n (tkE T n p) = 2 ∧ tkW T n (tkE T n p) = spc 301
      · -- fun
        have h1 := hw1 0
        rw [if_pos q2] at h1
        rw [if_pos q2, if_neg (by decide)] at eM0
        obtain ⟨C', M', y1, y2, y3⟩ := go 0 (Or.inl rfl) q2.1
        refine ⟨C', M', ?_, ?_, y3⟩
        · rw [eC 0 hw0 (Or.inl rfl), if_pos rfl, h1, ob_s, if_neg (by decide), y1]
        · rw [eM0]
          unfold f_M_readDefinition_b69 f_M_readDefinition_b74 f_M_readDefinition_b103
          rw [M_mustY T1 z3 (by decide) (by omega), ob2_s, if_pos z3, i6, if_neg q1, ob_s, if_pos rfl, y2]
      · obtain ⟨C', e7, tf⟩ := badC q1 q2
        have nz : ¬ gF (mfl M1 (tkS T n (tkE T n p)) (sk T n (tkE T n p))) 200 3 = 0 := (fcd_pos _).2.2
        obtain ⟨M', e8, tm⟩ := M_b104F hd nz (fcd_pos _).1
        refine ⟨C', M', e7, ?_, OD.flt ((gc1.tr (GC.tf (tfv 0))).tr (GC.fc FC.fl)) (gm1.tr (GM.fm FM.fl)) ⟨FT.mk, ⟨_, ((tfv 0).cv c1).fl⟩, h, g, ((tfv 0).pl P1).fl, hb⟩ tf tm⟩
        rw [eM0, if_neg q2, if_pos rfl, if_neg q1, if_pos rfl]
        unfold f_M_readDefinition_b74
        rw [M_mustN T1 z3 (Or.inl rfl), ob2_s, if_neg nz, e8]
