-- the last parenthesis; calls
theorem C_closeN {C : HS} {T : Nat → Int32} {n p o : Nat} (hC : CV C T n p) (hz : gF C 0 7 = 0) (h1 : tkS T n p ≠ 1) : f_P_close FU o C = some (cfl C (tkS T n p) (sk T n p)) := by
  unfold f_P_close
  have e : f_P_pass FU 501 C = some (cfl C (tkS T n p) (sk T n p)) := C_passN (x := 1) hC (by decide) hz h1
  rw [e, ob_s, if_neg (show ¬ gF (cfl C (tkS T n p) (sk T n p)) 0 7 = 0 from (fcd_pos _).2.2)]
theorem C_closeY {C : HS} {T : Nat → Int32} {n p h g k κ s d a : Nat} (hC : CV C T n p) (hz : gF C 0 7 = 0) (h1 : tkS T n p = 1) (hP : PL C h g) (hd : d < g) (hk : k < h) (h4 : h ≤ 4200) (hκ : κ < 24) (hs : s < 2 ^ 31) (o0 : gF C (1001 + 2 * d) 0 = nI k) (o1 : gX C (1001 + 2 * d) 1 = some (fm κ)) (o2 : gF C (1001 + 2 * d) 2 = nI s) (c02 : gF C 0 2 = nI a) (hka : k ≤ a) (c06 : gF C 0 6 = nI (d + 1)) : ∃ C2, CV C2 T n (tkE T n p) ∧ FrX C C2 ∧ f_P_close FU (1001 + 2 * d) C = some (if s = flen κ then sF (sF C2 (1000 + 2 * k) 2 (nI (a - k))) 0 6 (nI d) else C2) := by
  obtain ⟨C2, e2, c2, f⟩ := C_next hC
  refine ⟨C2, c2, f, ?_⟩
  have P2 : PL C2 h g := hP.cg (fun x => (f.1 3 x (by decide)).2.2) (fun x => (f.1 5 x (by decide)).2.2) f.2.2.2
  have e : f_P_pass FU 501 C = f_X_next FU C := C_passY (x := 1) hC hz h1
  have q0 : gF C2 (1001 + 2 * d) 0 = nI k := (f.1 _ _ (by omega)).1.trans o0
  have q1 : gX C2 (1001 + 2 * d) 1 = some (fm κ) := (f.1 _ _ (by omega)).2.2.trans o1
  have q2 : gF C2 (1001 + 2 * d) 2 = nI s := (f.1 _ _ (by omega)).1.trans o2
  have q02 : gF C2 0 2 = nI a := (f.1 _ _ (by decide)).1.trans c02
  have q06 : gF C2 0 6 = nI (d + 1) := (f.1 _ _ (by decide)).1.trans c06
  have hl := tb_fm κ hκ
  unfold f_P_close
  rw [e, e2, ob_s, if_pos ((f.1 0 7 (by decide)).1.trans hz), gdO P2 hd _ _ rfl, gdO P2 hd _ _ rfl, q1, ob_s, js_len hl.2.1, ob_s, q2]
  by_cases q : s = flen κ
  · rw [if_pos q, if_pos (by rw [q]; rfl), gdO P2 hd _ _ rfl, q0, gd_pos (in_n (by omega) (by decide)), cl_n (by omega), (P2.nd hk).1, ob_s, gdO P2 hd _ _ rfl, gdN P2 hk _ _ rfl, lt_e, lt_e, rFi (by omega), q02, q06, pk_sub hka, nI_pred]
  · have hl8 : flen κ ≤ 8 := hl.2.2.1
    rw [if_neg q, if_neg (nI_ne hs (show (sB (fm κ)).length < 2 ^ 31 by show flen κ < _; omega) q)]
theorem RB.fin {C C2 M : HS} {a h g : Nat} {pr al pt : Nat → Nat} {k κ s : Nat} {fs : List (Nat × Nat × Nat)} {v0 : Nat} (hR : RB C M a h g pr al pt ((k, κ, s) :: fs) v0) (hF : ∀ i q, i ≠ 1 → i ≠ 1001 + 2 * fs.length → gF C2 i q = gF C i q) (hL : ∀ i q, i ≠ 1 → gL C2 i q = gL C i q) (hX : ∀ i q, i ≠ 1 → gX C2 i q = gX C i q) (hD : C2.2.2.2 = C.2.2.2) : RB (sF (sF C2 (1000 + 2 * k) 2 (nI (a - k))) 0 6 (nI fs.length)) M a h g pr (fun j => if j = k then a - k else al j) pt fs v0 := by
  obtain ⟨r1, r2, r3, r4, r5, r6, r7, r8, b4, b5, b6, b7, b8, b9, b10, b11, b12⟩ := hR
  have hd : fs.length + 1 ≤ g := r2.2.1
  have hda : fs.length + 1 ≤ a := r2.2.2.1
  have eF : ∀ i q, i ≠ 0 → i ≠ 1 → i ≠ 1001 + 2 * fs.length → ¬ (i = 1000 + 2 * k ∧ q = 2) → gF (sF (sF C2 (1000 + 2 * k) 2 (nI (a - k))) 0 6 (nI fs.length)) i q = gF C i q := fun i q h0 h1 h2 h3 => by rw [rFi h0, rF, if_neg h3, hF i q h1 h2]
  refine ⟨r1.cg (fun x => hX 3 x (by decide)) (fun x => hX 5 x (by decide)) hD, ⟨r2.1, by omega, by omega, r2.2.2.2⟩, ?_, r4, fun j hj => (r5 j hj).cg (fun x _ x2 => eF _ x (by omega) (by omega) (by omega) (fun z => x2 z.2)) (fun x => hL _ x (by omega)) (fun _ _ _ => rfl) (fun _ _ _ => rfl), fun j hj => ?_, ?_, rFy, b12.cg (Nat.le_refl _) (fun i x hi => ⟨eF _ x (by omega) (by omega) (by omega) (by omega), hX _ x (by omega)⟩) (fun j hj => ⟨eF _ 0 (by omega) (by omega) (by omega) (by omega), eF _ 5 (by omega) (by omega) (by omega) (by omega)⟩)⟩
  · rw [rFk (by decide), rFi (by omega), hF 0 2 (by decide) (by omega), r3]
  · obtain ⟨t1, t2, t3⟩ := r6 j hj
    refine ⟨(eF _ 4 (by omega) (by omega) (by omega) (by omega)).trans t1, ?_, (eF _ 1 (by omega) (by omega) (by omega) (by omega)).trans t3⟩
    show _ = nI (if j = k then a - k else al j)
    by_cases q : j = k
    · rw [if_pos q, q, rFi (by omega), rFy]
    · rw [if_neg q, eF _ 2 (by omega) (by omega) (by omega) (by omega), t2]
  · refine r7.cl (t := k) (os := fs.map Prod.fst) ?_ (fun j hj => ?_)
    · show (if k = k then _ else _) = _; rw [if_pos rfl]
    · show (if j = k then _ else _) = _; rw [if_neg hj]
theorem FC.s06 {C : HS} {v : Int32} : FC C (sF C 0 6 v) := ⟨fun i k h1 h2 => ⟨by rw [rFi (by omega)], rfl⟩, by rw [rFk (by decide)], by rw [rFi (by decide)]⟩
theorem ST_c {C M : HS} {T : Nat → Int32} {n p a h g : Nat} {pr al pt : Nat → Nat} {k κ s : Nat} {fs : List (Nat × Nat × Nat)} {v0 : Nat} (H : RWN C M T n p a h g pr al pt k κ s fs v0) (h8 : s < 8) (hf : fch κ s = 41) : ∃ C' M', f_P_step FU (1001 + 2 * fs.length) C = some C' ∧ f_M_step FU M = some M' ∧ OUT C M C' M' T n p v0 := by
  obtain ⟨⟨hC, hL⟩, hz, hb, hR, hRN⟩ := id H
  obtain ⟨r1, r2, r3, r4, r5, r6, r7, r8, b4, b5, b6, b7, b8, b9, b10, b11, b12⟩ := id hR
  have hg : fs.length < g := r2.2.1
  have hsl : s < flen κ := Nat.lt_of_lt_of_le b4.2.2.1 (flm_le κ b4.2.1)
  obtain ⟨tA, tB⟩ := tb_c κ b4.2.1 b4.1 s h8 hsl hf
  have hcl : isCl κ = false := by
    cases q : isCl κ with
    | false => rfl
    | true =>
      have h2 := (tB q).1
      have h3 := b4.2.2.1
      unfold flm at h3
      rw [if_pos q] at h3
      omega
  obtain ⟨t0, t1, t2, t3, t4⟩ := tA hcl
  obtain ⟨S6, eM, fm6, R6, D6, l6, v6, L6, tk, hl6, -⟩ := M_POP H t1 (by decide) (by decide)
  have hs6 := tkS_lt T n p
  have hkh : k < h := by omega
  have c1 : CV (sF C (1001 + 2 * fs.length) 2 (nI (s + 1))) T n p := hC.sO
  have z1 : ∀ q, gF (sF C (1001 + 2 * fs.length) 2 (nI (s + 1))) 0 q = gF C 0 q := fun q => by rw [rFi (by omega)]
  have P1 : PL (sF C (1001 + 2 * fs.length) 2 (nI (s + 1))) h g := r1
  have eC : f_P_step FU (1001 + 2 * fs.length) C = f_P_close FU (1001 + 2 * fs.length) (sF C (1001 + 2 * fs.length) 2 (nI (s + 1))) := by
    rw [C_STEP H (by rw [hf]; exact Or.inl (by decide))]
    unfold cdis
    rw [hf, if_neg (by decide), if_pos rfl]
    cases f_P_close FU (1001 + 2 * fs.length) _ <;> rfl
  rcases tk with ⟨t, f3, f4⟩ | ⟨t, T6, z3, z4⟩
  · refine ⟨_, S6, eC.trans (C_closeN c1 ((z1 7).trans hz.1) (by omega)), ?_, FC.sO.tr FC.fl, fm6, Or.inl ⟨FT.mk5 t f3 f4, ⟨p, c1.fl⟩, h, g, P1, hb.2.1, hb.2.2⟩⟩
    rw [eM, if_neg (by rw [f3]; exact (fcd_pos 5).2.1)]
  have eM2 : f_M_step FU M = (if (gF S6 200 6) = (1 : Int32) then f_M_step_b160 FU (1 : Int32) S6 else f_M_step_b160 FU (0 : Int32) S6) := by
    rw [eM, if_pos (by rw [z3]; exact Int32.le_refl _)]
    rfl
  rw [T6.2.2.2.2.2.2.1] at eM2
  unfold f_M_step_b160 at eM2
  by_cases q1 : tkS T n p = 1
  · rw [q1, if_pos (show nI 1 = (1 : Int32) from rfl), M_mustY T6 z3 (by decide) (by omega), ob2_s] at eM2
    have hgo := tkE_go (T := T) hC.2.1 (by omega)
    obtain ⟨C2, c2, f2, eC2⟩ := C_closeY (κ := κ) (s := s + 1) (a := a) c1 ((z1 7).trans hz.1) q1 P1 hg hkh (by omega) b4.2.1 (by omega) (by rw [rFk (by decide), b5]) (by rw [rXF, b6]) rFy ((z1 2).trans r3) (by omega) ((z1 6).trans r8)
    have zC : ∀ x, gF C2 0 x = gF C 0 x := fun x => (f2.1 0 x (by decide)).1.trans (z1 x)
    by_cases qe : s + 1 = flen κ
    · rw [if_pos qe] at eC2
      obtain ⟨u1, u2⟩ := t4 qe
      rw [u1] at D6 l6
      refine ⟨_, S6, eC.trans eC2, eM2, ((FC.sO.tr (FC.frx f2)).tr FC.sNd).tr FC.s06, fm6, Or.inr ⟨_, a, h, g, pr, _, pt, fs, hgo, ⟨c2.cg (fun x => by rw [rFi (by decide), rFi (by omega)]) (fun x => by rw [rFi (by decide), rFi (by omega)]) (fun _ => rfl) (fun _ => rfl), L6⟩, ⟨?_, z3, ?_, z4⟩, ⟨by omega, hb.2⟩, R6.fin (C2 := C2) (fun i x h1 h2 => ?_) (fun i x h1 => (f2.1 i x h1).2.1) (fun i x h1 => (f2.1 i x h1).2.2) f2.2.2.2, D6, l6, ?_⟩⟩
      · rw [rFk (by decide), rFi (by omega), zC, hz.1]
      · rw [rFk (by decide), rFi (by omega), zC, hz.2.2.1]
      · rw [(f2.1 i x h1).1, rFi h2]
      · rw [v6, u2, Nat.add_zero]
    · rw [if_neg qe] at eC2
      have hlt : s + 1 < flm κ := by omega
      refine ⟨C2, S6, eC.trans eC2, eM2, FC.sO.tr (FC.frx f2), fm6, Or.inr ⟨_, a, h, g, pr, al, pt, (k, κ, s + 1) :: fs, hgo, ⟨c2, L6⟩, ⟨(zC 7).trans hz.1, z3, (zC 8).trans hz.2.2.1, z4⟩, ⟨by omega, hb.2⟩, (R6.stp hlt t3).frx f2, D6, l6, ?_⟩⟩
      rw [v6]; show _ = nI (thr v0 fs + dr κ (s + 1)); rw [t2]
  · refine ⟨_, mfl S6 (tkS T n p) (sk T n p), eC.trans (C_closeN c1 ((z1 7).trans hz.1) q1), ?_, FC.sO.tr FC.fl, fm6.tr FM.fl, Or.inl ⟨FT.mk, ⟨p, c1.fl⟩, h, g, P1, hb.2.1, hb.2.2⟩⟩
    rw [eM2, if_neg (show ¬ nI (tkS T n p) = (1 : Int32) from nI_ne (b := 1) (by omega) (by decide) q1), M_mustN T6 z3 (Or.inl rfl), ob2_s]
/-- one more argument of a call -/
theorem ST_s {C M : HS} {T : Nat → Int32} {n p a h g : Nat} {pr al pt : Nat → Nat} {k κ s : Nat} {fs : List (Nat × Nat × Nat)} {v0 : Nat} (H : RWN C M T n p a h g pr al pt k κ s fs v0) (hn : n ≤ 512) (h8 : s < 8) (hf : fch κ s = 42) (h1 : tkS T n p ≠ 1) : ∃ C' M', f_P_step FU (1001 + 2 * fs.length) C = some C' ∧ f_M_step FU M = some M' ∧ OUT C M C' M' T n p v0 := by
  obtain ⟨⟨hC, hL⟩, hz, hb, hR, hRN⟩ := id H
  obtain ⟨r1, r2, r3, r4, r5, r6, r7, r8, b4, b5, b6, b7, b8, b9, b10, b11, b12⟩ := id hR
  have hg : fs.length < g := r2.2.1
  have hsl : s < flen κ := Nat.lt_of_lt_of_le b4.2.2.1 (flm_le κ b4.2.1)
  obtain ⟨t1, rfl, t3, t4, t5, t6, t7, t8, t9, t10⟩ := tb_s κ b4.2.1 b4.1 s h8 hsl hf
  obtain ⟨S6, eM, fm6, R6, D6, l6, v6, L6, tk, hl6, -⟩ := M_POP H t5 (by decide) (by decide)
  have hs6 := tkS_lt T n p
  obtain ⟨hx, hs⟩ := hC.so
  have ht : thr v0 ((k, κ, 1) :: fs) = thr v0 fs := by show thr v0 fs + dr κ 1 = _; rw [t7, Nat.add_zero]
  have eC : f_P_step FU (1001 + 2 * fs.length) C = f_P_expression FU 1 (nI (thr v0 ((k, κ, 1) :: fs))) C := by
    unfold f_P_step f_P_step_b40
    rw [gdO r1 hg _ _ rfl, b6, ob_s, gdO r1 hg _ _ rfl, b7, fch_at b4.2.1 hsl, ob_s, lt_e, if_pos hf, hx, ob_s, gd_pos ⟨hs, by decide⟩, if_neg (by omega), gdO r1 hg _ _ rfl, b8, t9, Nat.add_zero, ht]
    cases f_P_expression FU 1 _ C <;> rfl
  rcases tk with ⟨t, f3, f4⟩ | ⟨t, T6, z3, z4⟩
  · refine ⟨_, S6, eC.trans (C_exprN (Or.inr rfl) hC hz.1 (by omega) (Or.inr ⟨by omega, mwF_no (by omega), by omega⟩)), ?_, FC.fl, fm6, Or.inl ⟨FT.mk5 t f3 f4, ⟨p, hC.fl⟩, h, g, r1, hb.2.1, hb.2.2⟩⟩
    rw [eM, if_neg (by rw [f3]; exact (fcd_pos 5).2.1)]
  obtain ⟨S7, e7, D7, l7, g1, g2, g3, g4⟩ := M_push_e (w := 7) (o := nI k) D6 l6 (by omega) (by decide)
  have T7 : MT S7 T n p := T6.cg (fun x hx => g1 200 x (by decide) (by decide) (by omega)) (fun x => g1 201 x (by decide) (by decide) (by omega)) (g2 200 8)
  have R7 : RB C S7 a h g pr al pt ((k, κ, 1) :: fs) v0 := R6.cg rfl rfl (fun _ _ _ => rfl) (fun _ _ _ => rfl) (fun _ _ _ => rfl) rfl (g1 200 19 (by decide) (by decide) (by decide)) (fun i q q1 q2 => g1 i q (by omega) (by omega) (by omega)) (fun i q _ _ => g2 i q)
  have er : rows ((k, κ, 1) :: fs) = (7, nI k) :: ([3].map (fun w => (w, nI k)) ++ rows fs) := by show row k κ 1 ++ rows fs = _; unfold row; rw [t6]; rfl
  obtain ⟨C', M', e1, e2, x1, x2, x3⟩ := EXPR (st := 1) (Or.inr rfl) hC T7 ⟨hz.1, (g1 200 3 (by decide) (by decide) (by decide)).trans z3, hz.2.2.1, (g1 200 4 (by decide) (by decide) (by decide)).trans z4⟩ hb hn R7 ⟨by rw [er]; exact D7, by rw [er]; exact l7, by rw [g1 200 32 (by decide) (by decide) (by decide), v6, t8, Nat.add_zero, ht]⟩
  refine ⟨C', M', eC.trans e1, ?_, x1, (fm6.tr (FM.push g1 g2 g3 g4)).tr x2, ?_⟩
  · have ep : pI (prO (((k, κ, 1) :: fs).map Prod.fst)) = nI k := pI_s k
    rw [ep] at e2
    rw [eM, if_pos (by rw [z3]; exact Int32.le_refl _)]
    show (if (gF S6 200 6) = (1 : Int32) then lt (sF S6 200 31 ((gF S6 200 31) - (1 : Int32))) fun S16 => some S16 else ob (f_M_push (nI 7) (nI k) S6) fun S17 => ob (f_M_begin FU (1 : Int32) (nI k) S17) fun S18 => some S18) = _
    rw [T6.2.2.2.2.2.2.1, if_neg (show ¬ nI (tkS T n p) = (1 : Int32) from nI_ne (b := 1) (by omega) (by decide) h1), e7, ob_s, e2, ob_s]
  · rcases x3 with q | ⟨p', h', g', pr', al', pt', fs', q1, q2⟩
    · exact Or.inl q
    · exact Or.inr ⟨p', a + 1, h', g', pr', al', pt', fs', q1, q2⟩
/-- a call ends: two steps of the component -/
theorem ST_e {C M : HS} {T : Nat → Int32} {n p a h g : Nat} {pr al pt : Nat → Nat} {k κ s : Nat} {fs : List (Nat × Nat × Nat)} {v0 : Nat} (H : RWN C M T n p a h g pr al pt k κ s fs v0) (h8 : s < 8) (hf : fch κ s = 42) (h1 : tkS T n p = 1) : ∃ C' M', (∀ kc, f_P_body_b25 FU (kc + 2) C = f_P_body_b25 FU kc C') ∧ f_M_step FU M = some M' ∧ OUT C M C' M' T n p v0 := by
  obtain ⟨⟨hC, hL⟩, hz, hb, hR, hRN⟩ := id H
  obtain ⟨r1, r2, r3, r4, r5, r6, r7, r8, b4, b5, b6, b7, b8, b9, b10, b11, b12⟩ := id hR
  have hg : fs.length < g := r2.2.1
  have hsl : s < flen κ := Nat.lt_of_lt_of_le b4.2.2.1 (flm_le κ b4.2.1)
  obtain ⟨t1, rfl, t3, t4, t5, t6, t7, t8, t9, t10⟩ := tb_s κ b4.2.1 b4.1 s h8 hsl hf
  obtain ⟨S6, eM, fm6, R6, D6, l6, v6, L6, tk, hl6, -⟩ := M_POP H t5 (by decide) (by decide)
  obtain ⟨t, T6, z3, z4⟩ := tk.resolve_left (fun q => by omega)
  have hgo := tkE_go (T := T) hC.2.1 (by omega)
  have hkh : k < h := by omega
  have e1 : f_P_step FU (1001 + 2 * fs.length) C = some (sF C (1001 + 2 * fs.length) 2 (nI 2)) := by
    rw [C_STEP H (Or.inr h1)]
    unfold cdis
    rw [hf, if_neg (by decide), if_neg (by decide), if_neg (by decide), if_neg (by decide), if_neg (by decide), if_neg (by decide), if_neg (by decide)]
  have c1 : CV (sF C (1001 + 2 * fs.length) 2 (nI 2)) T n p := hC.sO
  have P1 : PL (sF C (1001 + 2 * fs.length) 2 (nI 2)) h g := r1
  have z1 : ∀ q, gF (sF C (1001 + 2 * fs.length) 2 (nI 2)) 0 q = gF C 0 q := fun q => by rw [rFi (by omega)]
  have c3 : CV (sF (sF C (1001 + 2 * fs.length) 2 (nI 2)) (1001 + 2 * fs.length) 2 (nI 3)) T n p := c1.sO
  rw [sF_sF] at c3
  have z3' : ∀ q, gF (sF C (1001 + 2 * fs.length) 2 (nI 3)) 0 q = gF C 0 q := fun q => by rw [rFi (by omega)]
  obtain ⟨C2, c2, f2, eC2⟩ := C_closeY (κ := κ) (s := 3) (a := a) (d := fs.length) (k := k) c3 ((z3' 7).trans hz.1) h1 r1 hg hkh (by omega) b4.2.1 (by decide) (by rw [rFk (by decide), b5]) (by rw [rXF, b6]) rFy ((z3' 2).trans r3) (by omega) ((z3' 6).trans r8)
  rw [if_pos t3.symm] at eC2
  have zC : ∀ x, gF C2 0 x = gF C 0 x := fun x => (f2.1 0 x (by decide)).1.trans (z3' x)
  have e2 : f_P_step FU (1001 + 2 * fs.length) (sF C (1001 + 2 * fs.length) 2 (nI 2)) = some (sF (sF C2 (1000 + 2 * k) 2 (nI (a - k))) 0 6 (nI fs.length)) := by
    unfold f_P_step f_P_step_b41
    rw [gdO P1 hg _ _ rfl, rXF, b6, ob_s, gdO P1 hg _ _ rfl, rFy, fch_at b4.2.1 (by omega), ob_s, lt_e, t4, if_neg (by decide), gdO P1 hg _ _ rfl, gdO P1 hg _ _ rfl, lt_e, if_neg (by decide), if_pos rfl, nI_1, sF_sF, eC2, ob_s]
  have er : row k κ 1 ++ rows fs = (7, nI k) :: ([3].map (fun w => (w, nI k)) ++ rows fs) := by unfold row; rw [t6]; rfl
  refine ⟨_, sF S6 200 31 (nI (rows fs).length), fun kc => ?_, ?_, ((FC.sO.tr (FC.frx f2)).tr FC.sNd).tr FC.s06, fm6.tr (FM.sF (Or.inr ⟨rfl, by decide, by decide, by decide⟩)), Or.inr ⟨_, a, h, g, pr, _, pt, fs, hgo, ⟨c2.cg (fun x => by rw [rFi (by decide), rFi (by omega)]) (fun x => by rw [rFi (by decide), rFi (by omega)]) (fun _ => rfl) (fun _ => rfl), L6.cg rfl rfl (fun _ => rfl)⟩, ⟨?_, z3, ?_, z4⟩, ⟨by omega, hb.2⟩, RB.cg (R6.fin (C2 := C2) (fun i x h1 h2 => ?_) (fun i x h1 => (f2.1 i x h1).2.1) (fun i x h1 => (f2.1 i x h1).2.2) f2.2.2.2) rfl rfl (fun _ _ _ => rfl) (fun _ _ _ => rfl) (fun _ _ _ => rfl) rfl rfl (fun i q q1 q2 => by rw [rFi (by omega)]) (fun _ _ _ _ => rfl), ?_, rfl, ?_⟩⟩
  · rw [C_LOOP (kc + 1) H, e1, ob_s]
    show f_P_body_b25B FU (f_P_body_b25 FU kc) _ = _
    unfold f_P_body_b25B f_P_body_b54
    rw [if_pos ((z1 7).trans hz.1), z1, r8, List.length_cons, if_neg (nI_nle (by omega) (by omega)), nI_pred, gd_pos (in_n (by omega) (by decide)), cl_n (by omega), (P1.op hg).1, ob_s, e2, ob_s]
  · rw [eM, if_pos (by rw [z3]; exact Int32.le_refl _)]
    show (if (gF S6 200 6) = (1 : Int32) then lt (sF S6 200 31 ((gF S6 200 31) - (1 : Int32))) fun S16 => some S16 else ob (f_M_push (nI 7) (nI k) S6) fun S17 => ob (f_M_begin FU (1 : Int32) (nI k) S17) fun S18 => some S18) = _
    rw [T6.2.2.2.2.2.2.1, h1, if_pos (show nI 1 = (1 : Int32) from rfl), lt_e, l6]
    show some (sF S6 200 31 (nI ((rows fs).length + 1) - 1)) = _
    rw [nI_pred]
  · rw [rFk (by decide), rFi (by omega), zC, hz.1]
  · rw [rFk (by decide), rFi (by omega), zC, hz.2.2.1]
  · rw [(f2.1 i x h1).1, rFi h2]
  · exact (show Due S6 (rows fs) from D6.2.2).cg (fun x _ => ⟨by rw [rFi (by decide)], by rw [rFi (by decide)]⟩)
  · rw [rFk (by decide), v6, t8, Nat.add_zero]
