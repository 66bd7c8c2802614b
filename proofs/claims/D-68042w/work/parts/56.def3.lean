-- the rest of a definition behind its parameters
/-- what a definition brings about -/
def OD (C0 M0 C' M' : HS) (T : Nat → Int32) (n p d : Nat) : Prop := GC C0 C' ∧ GM M0 M' ∧ (FTR C' M' T n ∨ ∃ p' a h g pr al pt, p < p' ∧ a ≤ p' ∧ CV C' T n p' ∧ LexM M' T n p' ∧ ZZ C' M' ∧ RD C' M' a h g pr al pt d)
theorem RD.next {C M C' M' : HS} {a h g : Nat} {pr al pt : Nat → Nat} {d : Nat} (hR : RD C M a h g pr al pt d) (hd : d < 64) (hQ : DQ C M d) (c4 : C' = sF C 0 4 (nI (d + 1))) (m4 : M' = sF M 200 10 (nI (d + 1))) : RD C' M' a h g pr al pt (d + 1) := by
  subst c4
  subst m4
  obtain ⟨b, ⟨r1, r2, r3, r4, r5, r6, r7⟩, k1, k2, k3, k4⟩ := hR
  have q : ∀ j, DQ C M j → DQ (sF C 0 4 (nI (d + 1))) (sF M 200 10 (nI (d + 1))) j := fun j h => h.cg (fun i k h1 h2 => by rw [rFi (by omega)]) (fun _ _ _ _ => rfl) (fun i h1 h2 => by rw [rFi (by omega)]) rfl (fun k h1 h2 => ⟨rfl, by rw [rFi (by decide)]⟩)
  refine ⟨b, ⟨r1, r2, by rw [rFk (by decide), r3], by rw [rFk (by decide), r4], fun j hj => (r5 j hj).cg (fun k _ _ => by rw [rFi (by omega)]) (fun _ => rfl) (fun i h1 h2 => by rw [rFi (by omega)]) (fun _ _ _ => rfl), fun j hj => ?_, r7⟩, rFy, rFy, by omega, fun j hj => ?_⟩
  · obtain ⟨t1, t2, t3⟩ := r6 j hj
    exact ⟨by rw [rFi (by omega), t1], by rw [rFi (by omega), t2], by rw [rFi (by omega), t3]⟩
  · by_cases e : j = d
    · rw [e]; exact q d hQ
    · exact q j (k4 j (by omega))
theorem DF_end {C M : HS} {T : Nat → Int32} {n p a h g : Nat} {pr al pt : Nat → Nat} {d : Nat} (hC : CV C T n p) (hL : LexM M T n p) (hz : ZZ C M) (hap : a ≤ p) (hR : RD C M a h g pr al pt d) (hd : d < 64) (hQ : DQ C M d) : ∃ C' M', f_P_readDefinition_b205 FU C = some C' ∧ f_M_readDefinition_b430 FU M = some M' ∧ OD C M C' M' T n p (d + 1) := by
  have hP := hR.2.1.1
  have hb := hR.1
  obtain ⟨M1, e1, fr1, L1, tk⟩ := M_tok hL hz.2.1
  have eM : f_M_readDefinition_b430 FU M = (if (gF M1 200 6) = (1 : Int32) then f_M_readDefinition_b455 FU (1 : Int32) M1 else f_M_readDefinition_b455 FU (0 : Int32) M1) := by
    unfold f_M_readDefinition_b430
    rw [if_pos hz.2.1, e1, ob_s]
  unfold f_M_readDefinition_b455 f_M_readDefinition_b459 at eM
  have tm : ∀ X : HS, TM X (sF X 200 10 ((gF X 200 10) + 1)) := fun X => TM.sF (Or.inr ⟨rfl, Or.inl rfl⟩)
  have bad : tkS T n p ≠ 1 → f_P_readDefinition_b205 FU C = some (sF (cfl C (tkS T n p) (sk T n p)) 0 4 ((gF (cfl C (tkS T n p) (sk T n p)) 0 4) + 1)) := fun q => by
    unfold f_P_readDefinition_b205
    have ep : f_P_pass FU 501 C = _ := C_passN (x := 1) hC (by decide) hz.1 q
    rw [ep, ob_s, lt_e]
  have tf : ∀ X : HS, TF X (sF X 0 4 ((gF X 0 4) + 1)) := fun X => TF.sF (Or.inr ⟨rfl, rfl⟩)
  rcases tk with ⟨t5, f5, f6⟩ | ⟨t5, T1, z3, z4⟩
  · have nz : ¬ gF M1 200 3 = 0 := by rw [f5]; exact (fcd_pos 5).2.2
    rw [M_mustF nz, M_mustF nz, ob2_s, ite_self, lt_e] at eM
    exact ⟨_, _, bad (by omega), eM, (GC.fc FC.fl).tr (GC.tf (tf _)), (GM.frm fr1).tr (GM.tm (tm _)), Or.inl (FTR.tf (M := M1) ⟨FT.mk5 t5 f5 f6, ⟨_, hC.fl⟩, h, g, hP.fl, hb⟩ (tf _) (tm _).f3 (tm _).f4)⟩
  · have hs6 := tkS_lt T n p
    rw [T1.2.2.2.2.2.2.1] at eM
    by_cases q1 : tkS T n p = 1
    · rw [q1, if_pos (show nI 1 = (1 : Int32) from rfl), M_mustY T1 z3 (by decide) (by omega), ob2_s, lt_e] at eM
      obtain ⟨C1, e2, c1, f1⟩ := C_next hC
      have hgo := tkE_go (T := T) hC.2.1 (by omega)
      have R1 := (hR.frx f1).frm fr1
      have Q1 : DQ C1 M1 d := hQ.cg (fun i k _ _ => (f1.1 i k (by omega)).1) (fun i k _ _ => (f1.1 i k (by omega)).2.1) (fun i _ _ => (fr1.1 i _ (by omega)).1) (fr1.1 216 _ (by decide)).2 (fun k _ _ => ⟨(fr1.1 217 k (by decide)).2, (fr1.1 218 k (by decide)).1⟩)
      rw [R1.2.2.2.1, nI_1] at eM
      refine ⟨sF C1 0 4 (nI (d + 1)), _, ?_, eM, (GC.frx f1).tr (GC.sF (by decide)), (GM.frm fr1).tr (GM.sF ⟨⟨by decide, by decide, by decide⟩, by decide⟩), Or.inr ⟨_, a, h, g, pr, al, pt, hgo, by omega, c1.cg (fun k => by rw [rFi (by decide)]) (fun k => by rw [rFi (by decide)]) (fun _ => rfl) (fun _ => rfl), L1.cg rfl rfl (fun _ => rfl), ⟨?_, z3, ?_, ?_⟩, R1.next hd Q1 rfl rfl⟩⟩
      · unfold f_P_readDefinition_b205
        have ep : f_P_pass FU 501 C = some C1 := (C_passY (x := 1) hC hz.1 q1).trans e2
        rw [ep, ob_s, lt_e, R1.2.2.1, nI_1]
      · rw [rFk (by decide), (f1.1 0 7 (by decide)).1, hz.1]
      · rw [rFk (by decide), (f1.1 0 8 (by decide)).1, hz.2.2.1]
      · rw [rFk (by decide), z4, hz.2.2.2]
    · rw [if_neg (show ¬ nI (tkS T n p) = (1 : Int32) from nI_ne (b := 1) (by omega) (by decide) q1), M_mustN T1 z3 (Or.inl rfl), ob2_s, lt_e] at eM
      exact ⟨_, _, bad q1, eM, (GC.fc FC.fl).tr (GC.tf (tf _)), ((GM.frm fr1).tr (GM.fm FM.fl)).tr (GM.tm (tm _)), Or.inl (FTR.tf (M := mfl M1 (tkS T n p) (sk T n p)) ⟨FT.mk, ⟨_, hC.fl⟩, h, g, hP.fl, hb⟩ (tf _) (tm _).f3 (tm _).f4)⟩
/-- the body of a definition -/
theorem DBODY {C M : HS} {T : Nat → Int32} {n p a h g : Nat} {pr al pt : Nat → Nat} {d m : Nat} (hn : n ≤ 512) (hC : CV C T n p) (hL : LexM M T n p) (hz : ZZ C M) (hap : a ≤ p) (hR : RD C M a h g pr al pt d) (hd : d < 64) (hm : m ≤ 8) (o2 : gF C (6 + 3 * d) 2 = nI m) (oc : gF C (6 + 3 * d) 0 = 0 ∨ gF C (6 + 3 * d) 0 = 1) (m32 : gF M 200 32 = nI m) : ∃ C' M', f_P_body FU (6 + 3 * d) C = some C' ∧ f_M_expression FU (if gF C (6 + 3 * d) 0 = 0 then 1 else 0) M = some M' ∧ FC C C' ∧ FM M M' ∧ (FTR C' M' T n ∨ ∃ p' a' h' g' pr' al' pt', p ≤ p' ∧ RW C' M' T n p' a' h' g' pr' al' pt' [] m) := by
  obtain ⟨hb, ⟨r1, r2, r3, r4, r5, r6, r7⟩, -⟩ := hR
  have hst : (if gF C (6 + 3 * d) 0 = 0 then (1 : Int32) else 0) = 0 ∨ (if gF C (6 + 3 * d) 0 = 0 then (1 : Int32) else 0) = 1 := by split; exact Or.inr rfl; exact Or.inl rfl
  have c1 : CV (sF C 0 6 0) T n p := hC.cg (fun k => by rw [rFi (by decide)]) (fun k => by rw [rFi (by decide)]) (fun _ => rfl) (fun _ => rfl)
  have P1 : PL (sF C 0 6 0) h g := r1
  have eC : f_P_body FU (6 + 3 * d) C = ob (f_P_expression FU (if gF C (6 + 3 * d) 0 = 0 then 1 else 0) (nI m) (sF C 0 6 0)) (f_P_body_b25 FU FU) := by
    unfold f_P_body f_P_body_b18
    rw [lt_e, gdD P1 hd _ _ rfl, rFi (show 6 + 3 * d ≠ 0 by omega), gdD P1 hd _ _ rfl, gdD P1 hd _ _ rfl, rFi (show 6 + 3 * d ≠ 0 by omega), o2]
    split <;> rfl
  -- the model's row
  have hw : ∃ w, (w = 1 ∨ w = 2) ∧ (gF C (6 + 3 * d) 0 = 0 ↔ w = 1) := by
    by_cases q : gF C (6 + 3 * d) 0 = 0
    · exact ⟨1, Or.inl rfl, fun _ => rfl, fun _ => q⟩
    · exact ⟨2, Or.inr rfl, fun z => absurd z q, fun z => absurd z (by decide)⟩
  obtain ⟨w, hw1, hw2⟩ := hw
  have D0 : Due (sF M 200 31 0) [] := True.intro
  obtain ⟨M1, e1, D1', l1, g1, g2, g3, g4⟩ := M_push_e (w := w) (o := -1) D0 (show gF (sF M 200 31 0) 200 31 = nI 0 from rfl) (by decide) (by omega)
  have kM : ∀ i k, i ≠ 229 → i ≠ 230 → ¬ (i = 200 ∧ k = 31) → gF M1 i k = gF M i k := fun i k h1 h2 h3 => by rw [g1 i k h1 h2 h3, rF, if_neg h3]
  have eM : f_M_expression FU (if gF C (6 + 3 * d) 0 = 0 then 1 else 0) M = f_M_expression_b19 FU FU M1 := by
    unfold f_M_expression f_M_expression_b15
    rw [lt_e]
    rcases hw1 with rfl | rfl
    · rw [if_pos (hw2.mpr rfl), if_neg (by decide)]
      show ob (f_M_push (nI 1) (-1) (sF M 200 31 0)) _ = _
      rw [e1, ob_s]
    · rw [if_neg (fun z => absurd (hw2.mp z) (by decide)), if_pos rfl]
      show ob (f_M_push (nI 2) (-1) (sF M 200 31 0)) _ = _
      rw [e1, ob_s]
  have z1 : gF M1 200 3 = 0 := (kM 200 3 (by decide) (by decide) (by decide)).trans hz.2.1
  have hw8 : w < 128 ∧ w ≠ 8 ∧ w ≠ 10 := by omega
  have eL : f_M_expression_b19 FU FU M1 = ob (f_M_step FU M1) (f_M_expression_b19 FU 9999) := M_LOOP 9999 D1' l1 (by decide) hw8.1 hw8.2.2 z1
  have eS := M_STEP D1' l1 (by decide) hw8.1 hw8.2.1
  have L1 : LexM (sF M1 200 31 (nI (List.length (α := Nat × Int32) []))) T n p := hL.cg ((rFk (by decide)).trans (kM 200 2 (by decide) (by decide) (by decide))) ((rFk (by decide)).trans (kM 200 5 (by decide) (by decide) (by decide))) (fun j => (rFi (by decide)).trans (kM 201 j (by decide) (by decide) (by omega)))
  obtain ⟨M2, e2, fr2, L2, tk⟩ := M_tok L1 z1
  rw [e2, ob_s] at eS
  have kM2 : ∀ i k, i ≠ 229 → i ≠ 230 → i ≠ 200 → gF M2 i k = gF M i k := fun i k h1 h2 h3 => by rw [(fr2.1 i k h3).1, rFi h3, kM i k h1 h2 (by omega)]
  have kL2 : ∀ i k, i ≠ 200 → gL M2 i k = gL M i k := fun i k h3 => by rw [(fr2.1 i k h3).2, rLF, g2 i k, rLF]
  have k2 : ∀ k, k = 0 ∨ k = 2 ∨ k = 10 ∨ k = 19 ∨ k = 32 → gF M2 200 k = gF M 200 k := fun k hk => by rw [fr2.2.1 k (by omega) (by omega) (by omega) (by omega) (by omega) (by omega), rFk (by omega), kM 200 k (by decide) (by decide) (by omega)]
  have fm2 : FM M M2 := ⟨fun i k q => ⟨kM2 i k (by omega) (by omega) (by omega), kL2 i k (by omega)⟩, fun k q => k2 k (by omega), fun i k => by rw [fr2.2.2.1, rXF, g3 i k, rXF], by rw [fr2.2.2.2]; show M1.2.2.2 = _; rw [g4]; rfl⟩
  have RB1 : RB (sF C 0 6 0) M2 a h g pr al pt [] m := by
    refine ⟨P1, ⟨r2, Nat.zero_le _, Nat.zero_le _, by omega⟩, by rw [rFk (by decide), r3], (k2 19 (by omega)).trans r4, fun j hj => (r5 j hj).cg (fun k _ _ => by rw [rFi (by omega)]) (fun _ => rfl) (fun i h1 h2 => kM2 i j (by omega) (by omega) (by omega)) (fun i h1 h2 => kL2 i j (by omega)), fun j hj => ?_, r7, rfl, True.intro⟩
    obtain ⟨t1, t2, t3⟩ := r6 j hj
    exact ⟨by rw [rFi (by omega), t1], by rw [rFi (by omega), t2], by rw [rFi (by omega), t3]⟩
  have zc : gF (sF C 0 6 0) 0 7 = 0 := (rFk (by decide)).trans hz.1
  have done : ∀ {C' M' : HS}, FTR C' M' T n → f_P_body_b25 FU FU C' = some C' ∧ f_M_expression_b19 FU 9999 M' = some M' := fun {C' M'} F => by
    refine ⟨?_, ?_⟩
    · show f_P_body_b25B FU (f_P_body_b25 FU 9999) C' = _
      unfold f_P_body_b25B
      rw [if_neg F.1.c.1]
    · show f_M_expression_b19B FU (f_M_expression_b19 FU 9998) M' = _
      unfold f_M_expression_b19B
      rw [if_neg F.1.m.1, ite_self]
  rcases tk with ⟨t5, f5, f6⟩ | ⟨t5, T2, z3, z4⟩
  · have F : FTR (cfl (sF C 0 6 0) (tkS T n p) (sk T n p)) M2 T n := ⟨FT.mk5 t5 f5 f6, ⟨p, c1.fl⟩, h, g, P1.fl, hb⟩
    obtain ⟨d1, d2⟩ := done F
    refine ⟨_, M2, ?_, ?_, FC.s06.tr FC.fl, fm2, Or.inl F⟩
    · rw [eC, C_exprN hst c1 zc (by omega) (Or.inr ⟨by omega, mwF_no (by omega), by omega⟩), ob_s, d1]
    · rw [eM, eL, eS, if_neg (by rw [f5]; exact (fcd_pos 5).2.1), ob_s, d2]
  · have ez : (gF (sF C 0 6 0) 0 7 = 0 ∧ gF M2 200 3 = 0 ∧ gF (sF C 0 6 0) 0 8 = -1 ∧ gF M2 200 4 = -1) := ⟨zc, z3, (rFk (by decide)).trans hz.2.2.1, z4.trans ((rFk (by decide)).trans ((kM 200 4 (by decide) (by decide) (by decide)).trans hz.2.2.2))⟩
    obtain ⟨C', M', x1, x2, x3, x4, x5⟩ := EXPR (fs := []) (v0 := m) (st := if gF C (6 + 3 * d) 0 = 0 then 1 else 0) hst c1 T2 ez ⟨hap, hb⟩ hn RB1 ⟨True.intro, by rw [fr2.2.1 31 (by decide) (by decide) (by decide) (by decide) (by decide) (by decide), rFy]; rfl, (k2 32 (by omega)).trans m32⟩
    have eMd : mdis (nI w) (-1) M2 = some M' := by
      have x2' : f_M_begin FU (if gF C (6 + 3 * d) 0 = 0 then 1 else 0) (-1) M2 = some M' := x2
      unfold mdis f_M_step_b128 f_M_step_b139
      rcases hw1 with rfl | rfl
      · rw [if_pos (hw2.mpr rfl)] at x2'
        rw [if_pos (show nI 1 = (1 : Int32) from rfl), if_pos (show nI 1 = (1 : Int32) from rfl), x2', ob_s]
      · rw [if_neg (fun z => absurd (hw2.mp z) (by decide))] at x2'
        rw [if_neg (show ¬ nI 2 = (1 : Int32) by decide), if_pos (show nI 2 = (2 : Int32) from rfl), if_neg (show ¬ nI 2 = (1 : Int32) by decide), x2', ob_s]
    rw [eC, eM, eL, eS, if_pos (show gF M2 200 3 ≤ 0 by rw [z3]; exact Int32.le_refl _), eMd, ob_s]
    have x1' : f_P_expression FU (if gF C (6 + 3 * d) 0 = 0 then 1 else 0) (nI m) (sF C 0 6 0) = some C' := x1
    rw [x1', ob_s]
    rcases x5 with F | ⟨p', h', g', pr', al', pt', fs', hp', H'⟩
    · obtain ⟨d1, d2⟩ := done F
      exact ⟨C', M', d1, d2, FC.s06.tr x3, fm2.tr x4, Or.inl F⟩
    · obtain ⟨C2, M3, y1, y2, y3, y4, y5⟩ := BODY hn (n - p' + 1) (by omega) H' FU 9999 (by show _ ≤ 10000; omega) (by omega)
      refine ⟨C2, M3, y1, y2, (FC.s06.tr x3).tr y3, (fm2.tr x4).tr y4, ?_⟩
      rcases y5 with F | ⟨p2, a2, h2, g2, pr2, al2, pt2, hp2, H2⟩
      · exact Or.inl F
      · exact Or.inr ⟨p2, a2, h2, g2, pr2, al2, pt2, by omega, H2⟩
