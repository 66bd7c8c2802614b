-- one step of an expression that is not whole, on both sides
def OUT (C0 M0 C' M' : HS) (T : Nat → Int32) (n p v0 : Nat) : Prop := FC C0 C' ∧ FM M0 M' ∧ (FTR C' M' T n ∨ ∃ p' a' h' g' pr' al' pt' fs', p < p' ∧ RW C' M' T n p' a' h' g' pr' al' pt' fs' v0)
theorem RB.upd {C C' M M' : HS} {a h g : Nat} {pr al pt : Nat → Nat} {k κ s s' : Nat} {fs : List (Nat × Nat × Nat)} {v0 : Nat} (hR : RB C M a h g pr al pt ((k, κ, s) :: fs) v0) (P' : PL C' h g) (c02 : gF C' 0 2 = gF C 0 2) (c06 : gF C' 0 6 = gF C 0 6) (m19 : gF M' 200 19 = gF M 200 19) (hN : ∀ j, j < a → NQ C' M' j) (hF : ∀ j q, q = 0 ∨ q = 1 ∨ q = 2 ∨ q = 4 ∨ q = 5 → gF C' (1000 + 2 * j) q = gF C (1000 + 2 * j) q) (hO : ∀ i q, i < fs.length → gF C' (1001 + 2 * i) q = gF C (1001 + 2 * i) q ∧ gX C' (1001 + 2 * i) q = gX C (1001 + 2 * i) q)
    (o0 : gF C' (1001 + 2 * fs.length) 0 = gF C (1001 + 2 * fs.length) 0) (o1 : gX C' (1001 + 2 * fs.length) 1 = gX C (1001 + 2 * fs.length) 1) (o2 : gF C' (1001 + 2 * fs.length) 2 = nI s') (o3 : gF C' (1001 + 2 * fs.length) 3 = nI (thr v0 fs + dov κ s')) (hs' : s' < flm κ) (h24 : thr v0 fs + dov κ s' ≤ 24) : RB C' M' a h g pr al pt ((k, κ, s') :: fs) v0 := by
  obtain ⟨r1, r2, r3, r4, r5, r6, r7, r8, b4, b5, b6, b7, b8, b9, b10, b11, b12⟩ := hR
  refine ⟨P', r2, c02.trans r3, m19.trans r4, hN, fun j hj => ?_, r7, c06.trans r8, ⟨b4.1, b4.2.1, hs', b4.2.2.2⟩, o0.trans b5, o1.trans b6, o2, o3, (hF k 0 (by omega)).trans b9, (hF k 5 (by omega)).trans b10, h24, b12.cg (Nat.le_refl _) hO (fun j hj => ⟨hF j 0 (by omega), hF j 5 (by omega)⟩)⟩
  obtain ⟨t1, t2, t3⟩ := r6 j hj
  exact ⟨(hF j 4 (by omega)).trans t1, (hF j 2 (by omega)).trans t2, (hF j 1 (by omega)).trans t3⟩
theorem M_POP {C M : HS} {T : Nat → Int32} {n p a h g : Nat} {pr al pt : Nat → Nat} {k κ s w : Nat} {r : List Nat} {fs : List (Nat × Nat × Nat)} {v0 : Nat} (H : RWN C M T n p a h g pr al pt k κ s fs v0) (hr : nr κ s = w :: r) (hw : w < 128) (h8 : w ≠ 8) :
    ∃ S6, f_M_step FU M = (if (gF S6 200 3) ≤ 0 then mdis (nI w) (nI k) S6 else some S6) ∧ FM M S6 ∧ RB C S6 a h g pr al pt ((k, κ, s) :: fs) v0 ∧ Due S6 (r.map (fun w => (w, nI k)) ++ rows fs) ∧ gF S6 200 31 = nI (r.map (fun w => (w, nI k)) ++ rows fs).length ∧ gF S6 200 32 = nI (thr v0 fs + dn κ s) ∧ LexM S6 T n (tkE T n p) ∧ ((tkS T n p = 5 ∧ gF S6 200 3 = fcd 5 ∧ gF S6 200 4 = nI (sk T n p)) ∨ (tkS T n p ≠ 5 ∧ MT S6 T n p ∧ gF S6 200 3 = 0 ∧ gF S6 200 4 = -1)) ∧ (r.map (fun w => (w, nI k)) ++ rows fs).length < 32000 ∧ (∀ km, f_M_expression_b19 FU (km + 1) M = (if w = 10 then f_M_expression_b19 FU (km + 1) M else ob (f_M_step FU M) (f_M_expression_b19 FU km))) := by
  obtain ⟨⟨hC, hL⟩, hz, hb, hR, hD, hd, ht⟩ := H
  have r9 := hR.2.2.2.2.2.2.2.2
  have hk := r9.1
  have hrl := rows_len r9.2.2.2.2.2.2.2.2
  have hll := hR.2.1.2.1
  rw [List.length_cons] at hll
  have h9 := tb_len κ hk.2.1 s
  have er : rowN k κ s ++ rows fs = (w, nI k) :: (r.map (fun w => (w, nI k)) ++ rows fs) := by unfold rowN; rw [hr]; rfl
  have hnr : (nr κ s).length ≤ (rr κ s).length := by
    rcases tb_sil κ hk.2.1 hk.1 s (Nat.lt_of_lt_of_le hk.2.2.1 (flm_le κ hk.2.1)) with ⟨e1, -⟩ | ⟨e1, -⟩ | ⟨e1, -⟩
    · rw [e1]; exact Nat.le_refl _
    · rw [e1]; exact Nat.le_succ _
    · rw [e1]; exact Nat.le_succ _
  have hln : (r.map (fun w => (w, nI k)) ++ rows fs).length < 32000 := by
    rw [hr, List.length_cons] at hnr
    rw [List.length_append, List.length_map]
    omega
  rw [er] at hD hd
  rw [List.length_cons] at hd
  generalize hl : r.map (fun w => (w, nI k)) ++ rows fs = l at hD hd hln ⊢
  have L1 : LexM (sF M 200 31 (nI l.length)) T n p := hL.cg rfl rfl (fun _ => rfl)
  obtain ⟨S6, e6, fr, L6, tk⟩ := M_tok L1 hz.2.1
  refine ⟨S6, ?_, (FM.sF (Or.inr ⟨rfl, by decide, by decide, by decide⟩)).tr (FM.frm fr), ?_, ?_, ?_, ?_, L6, ?_, hln, fun km => ?_⟩
  · rw [M_STEP hD hd (by omega) hw h8, e6, ob_s]
  · exact RB.frm (M := sF M 200 31 (nI l.length)) (hR.cg (C' := C) (M' := sF M 200 31 (nI l.length)) rfl rfl (fun _ _ _ => rfl) (fun _ _ _ => rfl) (fun _ _ _ => rfl) rfl rfl (fun i q h1 h2 => by rw [rFi (by omega)]) (fun _ _ _ _ => rfl)) fr
  · exact hD.2.2.cg (fun q _ => ⟨by rw [(fr.1 229 q (by decide)).1, rFi (by decide)], by rw [(fr.1 230 q (by decide)).1, rFi (by decide)]⟩)
  · rw [fr.2.1 31 (by decide) (by decide) (by decide) (by decide) (by decide) (by decide), rFy]
  · rw [fr.2.1 32 (by decide) (by decide) (by decide) (by decide) (by decide) (by decide), rFk (by decide), ht]
  · rcases tk with t | ⟨t1, t2, t3, t4⟩
    · exact Or.inl t
    · exact Or.inr ⟨t1, t2, t3, t4.trans hz.2.2.2⟩
  · by_cases q : w = 10
    · rw [if_pos q]
    · rw [if_neg q, M_LOOP km hD hd (by omega) hw q hz.2.1]
def cdis (x1 : Nat) (x2 : Int32) (S13 : HS) : Option HS :=
  (if x2 = (40 : Int32) then
  ob (f_P_pass FU 500 S13) fun S14 =>
  some S14
  else
  (if x2 = (41 : Int32) then
  ob (f_P_close FU x1 S13) fun S15 =>
  some S15
  else
  (if x2 = (99 : Int32) then
  f_P_step_b120 FU x1 x2 S13
  else
  (if x2 = (101 : Int32) then
  f_P_step_b120 FU x1 x2 S13
  else
  (if x2 = (102 : Int32) then
  gd (kd x1 = 4 ∧ gD S13 x1 = true) <|
  gd (inR (gF S13 x1 0) 4200) <|
  ob (gX S13 3 (gF S13 x1 0).toNatClampNeg) fun j18 =>
  ob (f_P_function FU j18 S13) fun S19 =>
  some S19
  else
  (if x2 = (120 : Int32) then
  f_P_step_b164 FU x1 x2 S13
  else
  (if x2 = (121 : Int32) then
  f_P_step_b164 FU x1 x2 S13
  else
  some S13)))))))
theorem fch_at {κ s : Nat} (hκ : κ < 24) (hs : s < flen κ) : f_Js_charAt (fm κ) (nI s) = some (fch κ s) := by
  have h := tb_fm κ hκ
  exact js_at h.2.1 hs (by have := h.2.2.1; show flen κ < _; omega)
theorem C_STEP {C M : HS} {T : Nat → Int32} {n p a h g : Nat} {pr al pt : Nat → Nat} {k κ s : Nat} {fs : List (Nat × Nat × Nat)} {v0 : Nat} (H : RWN C M T n p a h g pr al pt k κ s fs v0) (h42 : fch κ s ≠ 42 ∨ tkS T n p = 1) : f_P_step FU (1001 + 2 * fs.length) C = cdis (1001 + 2 * fs.length) (fch κ s) (sF C (1001 + 2 * fs.length) 2 (nI (s + 1))) := by
  obtain ⟨⟨hC, hL⟩, hz, hb, hR, -⟩ := H
  obtain ⟨r1, r2, r3, r4, r5, r6, r7, r8, b4, b5, b6, b7, b8, b9, b10, b11, b12⟩ := hR
  have hg : fs.length < g := r2.2.1
  obtain ⟨hx, hs⟩ := hC.so
  have e41 : f_P_step_b41 FU (1001 + 2 * fs.length) (fch κ s) C = cdis (1001 + 2 * fs.length) (fch κ s) (sF C (1001 + 2 * fs.length) 2 (nI (s + 1))) := by
    unfold f_P_step_b41
    rw [gdO r1 hg C _ rfl, gdO r1 hg C _ rfl, b7, nI_1, lt_e]
    rfl
  unfold f_P_step
  rw [gdO r1 hg C _ rfl, b6, ob_s, gdO r1 hg C _ rfl, b7, fch_at b4.2.1 (Nat.lt_of_lt_of_le b4.2.2.1 (flm_le κ b4.2.1)), ob_s, lt_e]
  by_cases q : fch κ s = 42
  · rw [if_pos q, hx, ob_s, gd_pos ⟨hs, by decide⟩, if_pos (by have := h42.resolve_left (fun z => z q); omega)]
    exact e41
  · rw [if_neg q]
    exact e41
theorem C_LOOP {C M : HS} {T : Nat → Int32} {n p a h g : Nat} {pr al pt : Nat → Nat} {k κ s : Nat} {fs : List (Nat × Nat × Nat)} {v0 : Nat} (kc : Nat) (H : RWN C M T n p a h g pr al pt k κ s fs v0) : f_P_body_b25 FU (kc + 1) C = ob (f_P_step FU (1001 + 2 * fs.length) C) (f_P_body_b25 FU kc) := by
  obtain ⟨⟨hC, hL⟩, hz, hb, hR, -⟩ := H
  obtain ⟨r1, r2, r3, r4, r5, r6, r7, r8, b⟩ := hR
  have hg : fs.length < g := r2.2.1
  rw [List.length_cons] at r8
  show f_P_body_b25B FU (f_P_body_b25 FU kc) C = _
  unfold f_P_body_b25B f_P_body_b54
  rw [if_pos hz.1, r8, if_neg (nI_nle (by omega) (by omega)), nI_pred, gd_pos (in_n (by omega) (by decide)), cl_n (by omega), (r1.op hg).1, ob_s]
theorem CV.sO {C : HS} {T : Nat → Int32} {n p d q : Nat} {v : Int32} (hC : CV C T n p) : CV (sF C (1001 + 2 * d) q v) T n p := hC.cg (fun k => by rw [rFi (by omega)]) (fun k => by rw [rFi (by omega)]) (fun _ => rfl) (fun _ => rfl)
theorem FC.sO {C : HS} {d q : Nat} {v : Int32} : FC C (sF C (1001 + 2 * d) q v) := ⟨fun i k h1 h2 => ⟨by rw [rFi (by omega)], rfl⟩, by rw [rFi (by omega)], by rw [rFi (by omega)]⟩
theorem FC.sNd {C : HS} {d q : Nat} {v : Int32} : FC C (sF C (1000 + 2 * d) q v) := ⟨fun i k h1 h2 => ⟨by rw [rFi (by omega)], rfl⟩, by rw [rFi (by omega)], by rw [rFi (by omega)]⟩
theorem FC.sNl {C : HS} {d q : Nat} {v : Int64} : FC C (sL C (1000 + 2 * d) q v) := ⟨fun i k h1 h2 => ⟨rfl, by rw [rLi (by omega)]⟩, rfl, rfl⟩
/-- the step is made, nothing else -/
theorem RB.stp {C M : HS} {a h g : Nat} {pr al pt : Nat → Nat} {k κ s s' : Nat} {fs : List (Nat × Nat × Nat)} {v0 : Nat} (hR : RB C M a h g pr al pt ((k, κ, s) :: fs) v0) (hs' : s' < flm κ) (hd : dov κ s' = dov κ s) : RB (sF C (1001 + 2 * fs.length) 2 (nI s')) M a h g pr al pt ((k, κ, s') :: fs) v0 := by
  have b := hR.2.2.2.2.2.2.2.2
  have hN := hR.2.2.2.2.1
  refine hR.upd (C' := sF C (1001 + 2 * fs.length) 2 (nI s')) (M' := M) hR.1 (by rw [rFi (by omega)]) (by rw [rFi (by omega)]) rfl (fun j hj => (hN j hj).cg (fun q _ _ => by rw [rFi (by omega)]) (fun _ => rfl) (fun _ _ _ => rfl) (fun _ _ _ => rfl)) (fun j q _ => by rw [rFi (by omega)]) (fun i q hi => ⟨by rw [rFi (by omega)], rfl⟩) (by rw [rFk (by decide)]) rfl rFy ?_ hs' ?_
  · rw [rFk (by decide), hd]; exact b.2.2.2.2.1
  · rw [hd]; exact b.2.2.2.2.2.2.2.1
theorem MT.cg {M M' : HS} {T : Nat → Int32} {n p : Nat} (h : MT M T n p) (h0 : ∀ k, k = 2 ∨ k = 5 ∨ k = 6 ∨ k = 7 ∨ k = 9 → gF M' 200 k = gF M 200 k) (h1 : ∀ k, gF M' 201 k = gF M 201 k) (h8 : gL M' 200 8 = gL M 200 8) : MT M' T n p := by
  obtain ⟨a, b, c, d, e, f, g, i, j, k⟩ := h
  exact ⟨(h0 2 (by decide)).trans a, b, c, fun j hj => (h1 j).trans (d j hj), (h0 5 (by decide)).trans e, (h0 7 (by decide)).trans f, (h0 6 (by decide)).trans g, fun q => h8.trans (i q), fun q => (h0 9 (by decide)).trans (j q), k⟩
/-- a part that is an expression -/
theorem ST_ex {C M : HS} {T : Nat → Int32} {n p a h g : Nat} {pr al pt : Nat → Nat} {k κ s : Nat} {fs : List (Nat × Nat × Nat)} {v0 : Nat} (H : RWN C M T n p a h g pr al pt k κ s fs v0) (hn : n ≤ 512) (h8 : s < 8) (hf : fch κ s = 101 ∨ fch κ s = 99) : ∃ C' M', f_P_step FU (1001 + 2 * fs.length) C = some C' ∧ f_M_step FU M = some M' ∧ OUT C M C' M' T n p v0 := by
  obtain ⟨⟨hC, hL⟩, hz, hb, hR, hRN⟩ := id H
  obtain ⟨r1, r2, r3, r4, r5, r6, r7, r8, b4, b5, b6, b7, b8, b9, b10, b11, b12⟩ := id hR
  have hg : fs.length < g := r2.2.1
  have hsl : s < flen κ := Nat.lt_of_lt_of_le b4.2.2.1 (flm_le κ b4.2.1)
  obtain ⟨t1, t2, t3, t4, t5⟩ := tb_ex κ b4.2.1 b4.1 s h8 hsl hf
  have hw : (if fch κ s = 101 then 1 else 2) < 128 ∧ (if fch κ s = 101 then 1 else 2) ≠ 8 := by split <;> decide
  obtain ⟨S6, eM, fm6, R6, D6, l6, v6, L6, tk, -, -⟩ := M_POP H t1 hw.1 hw.2
  have hst : (if fch κ s = 101 then (1 : Int32) else 0) = 0 ∨ (if fch κ s = 101 then (1 : Int32) else 0) = 1 := by split; exact Or.inr rfl; exact Or.inl rfl
  have R1 : RB (sF C (1001 + 2 * fs.length) 2 (nI (s + 1))) S6 a h g pr al pt ((k, κ, s + 1) :: fs) v0 := R6.stp t3 t4
  have ht : thr v0 ((k, κ, s + 1) :: fs) = thr v0 fs + dn κ s := by show thr v0 fs + dr κ (s + 1) = _; rw [t2]
  have hsl1 : s + 1 < flen κ := Nat.lt_of_lt_of_le t3 (flm_le κ b4.2.1)
  have eC : f_P_step FU (1001 + 2 * fs.length) C = f_P_expression FU (if fch κ s = 101 then 1 else 0) (nI (thr v0 ((k, κ, s + 1) :: fs))) (sF C (1001 + 2 * fs.length) 2 (nI (s + 1))) := by
    have P1 : PL (sF C (1001 + 2 * fs.length) 2 (nI (s + 1))) h g := r1
    have e0 : ∀ y, f_P_step_b132 FU (1001 + 2 * fs.length) y (sF C (1001 + 2 * fs.length) 2 (nI (s + 1))) = f_P_expression FU y (nI (thr v0 ((k, κ, s + 1) :: fs))) (sF C (1001 + 2 * fs.length) 2 (nI (s + 1))) := by
      intro y
      unfold f_P_step_b132 f_P_isInner f_P_step_b158 f_P_step_b161
      rw [gdO P1 hg _ _ rfl, rXF, b6, ob_s, gdO P1 hg _ _ rfl, rFy, fch_at b4.2.1 hsl1, ob_s, gdO P1 hg _ _ rfl, gdO P1 hg _ _ rfl, rFk (show (0 : Nat) ≠ 2 by decide), b5, gd_pos (in_n (by omega) (by decide)), cl_n (by omega), rXF, (r1.nd (show k < h by omega)).1, ob_s, gdN P1 (show k < h by omega) _ _ rfl, rFi (show 1000 + 2 * k ≠ 1001 + 2 * fs.length by omega), b10, rFk (show (3 : Nat) ≠ 2 by decide), b8, ht, ← t5, t4]
      by_cases q : fch κ (s + 1) = 41
      · rw [if_pos q, if_pos q, ob_s, if_neg (by decide)]
        cases f_P_expression FU y _ _ <;> rfl
      · rw [if_neg q, if_neg q, ob_s, if_pos rfl, Nat.add_zero]
        cases f_P_expression FU y _ _ <;> rfl
    rw [C_STEP H (by rcases hf with q | q <;> rw [q] <;> exact Or.inl (by decide))]
    unfold cdis
    rcases hf with q | q
    · rw [q, if_neg (by decide), if_neg (by decide), if_neg (by decide), if_pos rfl, if_pos rfl]
      unfold f_P_step_b120
      rw [if_pos rfl, e0]
    · rw [q, if_neg (by decide), if_neg (by decide), if_pos rfl, if_neg (by decide)]
      unfold f_P_step_b120
      rw [if_neg (by decide), e0]
  have c1 : CV (sF C (1001 + 2 * fs.length) 2 (nI (s + 1))) T n p := hC.sO
  have z1 : ∀ q, gF (sF C (1001 + 2 * fs.length) 2 (nI (s + 1))) 0 q = gF C 0 q := fun q => by rw [rFi (by omega)]
  rcases tk with ⟨t, f3, f4⟩ | ⟨t, T6, z3, z4⟩
  · refine ⟨_, S6, eC.trans (C_exprN hst c1 ((z1 7).trans hz.1) (by omega) (Or.inr ⟨by omega, mwF_no (by omega), by omega⟩)), ?_, FC.sO.tr FC.fl, fm6, Or.inl ⟨FT.mk5 t f3 f4, ⟨p, c1.fl⟩, h, g, R1.1, hb.2.1, hb.2.2⟩⟩
    rw [eM, if_neg (by rw [f3]; exact (fcd_pos 5).2.1)]
  · obtain ⟨C', M', e1, e2, x1, x2, x3⟩ := EXPR (st := if fch κ s = 101 then 1 else 0) hst c1 T6 ⟨(z1 7).trans hz.1, z3, (z1 8).trans hz.2.2.1, z4⟩ hb hn R1 ⟨D6, l6, by rw [v6, ht]⟩
    refine ⟨C', M', eC.trans e1, ?_, FC.sO.tr x1, fm6.tr x2, ?_⟩
    · rw [eM, if_pos (by rw [z3]; exact Int32.le_refl _)]
      have ep : pI (prO (((k, κ, s + 1) :: fs).map Prod.fst)) = nI k := pI_s k
      rw [ep] at e2
      unfold mdis f_M_step_b128 f_M_step_b139
      rcases hf with q | q
      · simp only [if_pos q] at e2 ⊢
        rw [if_pos (show nI 1 = (1 : Int32) from rfl), if_pos (show nI 1 = (1 : Int32) from rfl), e2, ob_s]
      · have nq : ¬ fch κ s = 101 := by rw [q]; decide
        simp only [if_neg nq] at e2 ⊢
        rw [if_neg (show ¬ nI 2 = (1 : Int32) by decide), if_pos (show nI 2 = (2 : Int32) from rfl), if_neg (show ¬ nI 2 = (1 : Int32) by decide), e2, ob_s]
    · rcases x3 with q | ⟨p', h', g', pr', al', pt', fs', q1, q2⟩
      · exact Or.inl q
      · exact Or.inr ⟨p', a + 1, h', g', pr', al', pt', fs', q1, q2⟩
