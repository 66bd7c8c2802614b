theorem C_expr0 {C : HS} {T : Nat → Int32} {n p : Nat} {st x : Int32} (hst : st = 0 ∨ st = 1) (hC : CV C T n p) (h0 : tkS T n p = 0) : ∃ C1, CV C1 T n (tkE T n p) ∧ FrX C C1 ∧ f_P_expression FU st x C = f_P_expression_b56 FU x (nI (sk T n p)) (kOf st T n (tkE T n p)) C1 := by
  obtain ⟨hx, hs⟩ := hC.so
  obtain ⟨C1, e1, c1, f1⟩ := C_next hC
  refine ⟨C1, c1, f1, ?_⟩
  unfold f_P_expression
  rw [lt_e, hx, ob_s, gd_pos ⟨hs, by decide⟩, if_pos (by omega), e1, ob_s, C_kind hst c1, hC.2.2.2.2.1]
theorem C_exprN {C : HS} {T : Nat → Int32} {n p : Nat} {st x : Int32} (hst : st = 0 ∨ st = 1) (hC : CV C T n p) (hz : gF C 0 7 = 0) (h0 : tkS T n p ≠ 0) (h : st = 0 ∨ (tkS T n p ≠ 3 ∧ mwF T n p = 0 ∧ ¬ (tkS T n p = 2 ∧ tkW T n p = spc 302))) : f_P_expression FU st x C = some (cfl C (tkS T n p) (sk T n p)) := by
  obtain ⟨hx, hs⟩ := hC.so
  unfold f_P_expression f_P_expression_b201
  rw [lt_e, hx, ob_s, gd_pos ⟨hs, by decide⟩, if_neg (by omega)]
  rcases hst with rfl | rfl
  · rw [if_pos rfl, C_refuse hC hz, ob_s]
  · obtain ⟨h3, hf, hn⟩ := h.resolve_left (by decide)
    have hw := C_isWord (a := 2) hC (by decide)
    simp only [Nat.reduceAdd] at hw
    rw [if_neg hn] at hw
    rw [if_neg (by decide), ob_s, gd_pos ⟨hs, by decide⟩, if_neg (by omega), hw, ob_s, if_pos rfl, C_isName hC, ob_s, hf, if_pos rfl, C_refuse hC hz, ob_s]
theorem C_expr3 {C : HS} {T : Nat → Int32} {n p : Nat} {x : Int32} (hC : CV C T n p) (h : tkS T n p = 3) : f_P_expression FU 1 x C = f_P_expression_b238 FU x (nI (sk T n p)) (nI 0) C := by
  obtain ⟨hx, hs⟩ := hC.so
  unfold f_P_expression f_P_expression_b206
  rw [lt_e, hx, ob_s, gd_pos ⟨hs, by decide⟩, if_neg (by omega), if_neg (by decide), ob_s, gd_pos ⟨hs, by decide⟩, if_pos (by omega), ob_s, gd_pos ⟨hs, by decide⟩, if_pos (by omega), hC.2.2.2.2.1]
  rfl
theorem C_expr2 {C : HS} {T : Nat → Int32} {n p : Nat} {x : Int32} (hC : CV C T n p) (h : tkS T n p = 2) (hw : tkW T n p = spc 302) : f_P_expression FU 1 x C = f_P_expression_b238 FU x (nI (sk T n p)) (nI 2) C := by
  obtain ⟨hx, hs⟩ := hC.so
  have hW := C_isWord (a := 2) hC (by decide)
  simp only [Nat.reduceAdd] at hW
  rw [if_pos ⟨h, hw⟩] at hW
  unfold f_P_expression f_P_expression_b206
  rw [lt_e, hx, ob_s, gd_pos ⟨hs, by decide⟩, if_neg (by omega), if_neg (by decide), ob_s, gd_pos ⟨hs, by decide⟩, if_neg (by omega), hW, ob_s, if_neg (by decide), ob_s, gd_pos ⟨hs, by decide⟩, if_neg (by omega), ob_s, if_neg (by decide), hC.2.2.2.2.1]
  rfl
theorem C_expr1 {C : HS} {T : Nat → Int32} {n p : Nat} {x : Int32} (hC : CV C T n p) (h : tkS T n p = 2) (hw : ¬ tkW T n p = spc 302) (hf : mwF T n p = 1) : f_P_expression FU 1 x C = f_P_expression_b238 FU x (nI (sk T n p)) (nI 1) C := by
  obtain ⟨hx, hs⟩ := hC.so
  have hW := C_isWord (a := 2) hC (by decide)
  simp only [Nat.reduceAdd] at hW
  rw [if_neg (fun q => hw q.2)] at hW
  unfold f_P_expression f_P_expression_b206
  rw [lt_e, hx, ob_s, gd_pos ⟨hs, by decide⟩, if_neg (by omega), if_neg (by decide), ob_s, gd_pos ⟨hs, by decide⟩, if_neg (by omega), hW, ob_s, if_pos rfl, C_isName hC, ob_s, hf, if_neg (by decide), ob_s, gd_pos ⟨hs, by decide⟩, if_neg (by omega), ob_s, if_pos rfl, hC.2.2.2.2.1]
  rfl
theorem mwF_no {T : Nat → Int32} {n p : Nat} (h : tkS T n p ≠ 2) : mwF T n p = 0 := by unfold mwF; rw [if_neg h]
theorem m1_lt : (-1 : Int32) < 0 ∧ ¬ (0 : Int32) ≤ -1 := by decide
theorem MK.fm {M M' : HS} {a : Nat} {κ o : Int32} (h : MK M M' a κ o) : FM M M' := ⟨fun i k q => ⟨h.2.2.1 i k (by omega) (by omega), h.2.2.2.1 i k (by omega)⟩, fun k q => h.2.2.1 200 k (by omega) (by omega), h.2.2.2.2.1, h.2.2.2.2.2⟩
theorem BG.fc {C C' : HS} {a po : Nat} {κ pl v : Int32} (b : BG C C' a po κ pl v) : FC C C' := ⟨fun i k h1 h2 => ⟨b.2.2.1 i k (by omega) (by omega) (by omega), b.2.2.2.2.1 i k (by omega)⟩, b.2.2.1 0 4 (by omega) (by omega) (by omega), b.2.2.1 1 1 (by omega) (by omega) (by omega)⟩
theorem OP.fc {C C' : HS} {a dp κ v : Nat} (b : OP C C' a dp κ v) : FC C C' := ⟨fun i k h1 h2 => ⟨b.2.2.1 i k (by omega) (by omega), b.2.2.2.1 i k (by omega)⟩, b.2.2.1 0 4 (by omega) (by omega), b.2.2.1 1 1 (by omega) (by omega)⟩
theorem EX_par {C M : HS} {T : Nat → Int32} {n p a h g : Nat} {pr al pt : Nat → Nat} {fs : List (Nat × Nat × Nat)} {v0 : Nat} {st : Int32} (hst : st = 0 ∨ st = 1) (hC : CV C T n p) (hM : MT M T n p) (hz : gF C 0 7 = 0 ∧ gF M 200 3 = 0 ∧ gF C 0 8 = -1 ∧ gF M 200 4 = -1) (hb : a ≤ p ∧ h ≤ 600 ∧ g ≤ 600) (hn : n ≤ 512) (hR : RB C M a h g pr al pt fs v0) (hRM : RM M fs v0) (hs : tkS T n p = 0) :
    ∃ C' M', f_P_expression FU st (nI (thr v0 fs)) C = some C' ∧ f_M_begin FU st (pI (prO (fs.map Prod.fst))) M = some M' ∧ FC C C' ∧ FM M M' ∧ (FTR C' M' T n ∨ ∃ p' h' g' pr' al' pt' fs', p < p' ∧ RW C' M' T n p' (a + 1) h' g' pr' al' pt' fs' v0) := by
  obtain ⟨C1, c1, f1, eC⟩ := C_expr0 (x := nI (thr v0 fs)) hst hC hs
  have hp := hM.2.1
  have hgo := tkE_go (T := T) hp (by omega)
  obtain ⟨-, he⟩ := tkE_le (T := T) hp
  have R1 := hR.frx f1
  obtain ⟨r1, r2, r3, r4, r5, r6, r7, r8, r9⟩ := id hR
  obtain ⟨M1, e1, mk⟩ := M_make (κ := 0) (o := pI (prO (fs.map Prod.fst))) r4 (by omega)
  have fm1 := mk.fm
  obtain ⟨m1, ⟨k0, k1, k2, k3, k4, k5, k6, k7, k8⟩, m3, m4, m5, m6⟩ := mk
  have eM : f_M_begin FU st (pI (prO (fs.map Prod.fst))) M = ob (f_M_next FU M1) fun S20 => (if (gF S20 200 3) ≤ 0 then (if st = 0 then ob (f_M_changeableKind FU S20) fun r21 => f_M_begin_b137 FU (nI a) r21 S20 else ob (f_M_stableKind FU S20) fun r22 => f_M_begin_b137 FU (nI a) r22 S20) else f_M_begin_b137 FU (nI a) (-1 : Int32) S20) := by
    rw [M_b81 hst hM (Or.inr ⟨by omega, mwF_no (by omega), by omega⟩)]
    unfold f_M_begin_b81 f_M_begin_b94
    rw [hM.2.2.2.2.2.2.1, hs, if_pos (show nI 0 = (0 : Int32) from rfl), M_mustY hM hz.2.1 (by decide) (by omega), ob2_s, if_neg (by decide), e1, ob2_s, lt_e]
  have L1 : LexM M1 T n (tkE T n p) := ⟨by rw [m3 200 2 (by omega) (by omega), hM.1], by rw [m3 200 5 (by omega) (by omega), hM.2.2.2.2.1], he, hM.2.2.1, fun j hj => by rw [m3 201 j (by omega) (by omega), hM.2.2.2.1 j hj]⟩
  obtain ⟨M2, e2, fr2, L2, ht⟩ := M_tok L1 (by rw [m3 200 3 (by omega) (by omega), hz.2.1])
  have fm2 := fm1.tr (FM.frm fr2)
  have z1 : gF C1 0 7 = 0 := (f1.1 0 7 (by decide)).1.trans hz.1
  rcases ht with ⟨t5, f3, f4⟩ | ⟨t5, T2, z3, z4⟩
  · -- a wrong token
    have hk : kOf st T n (tkE T n p) = -1 := by
      rcases kOf_v st T n (tkE T n p) with q | ⟨q, -⟩
      · exact q
      · omega
    have nz : ¬ gF M2 200 3 = 0 := by rw [f3]; exact (fcd_pos 5).2.2
    refine ⟨cfl C1 (tkS T n (tkE T n p)) (sk T n (tkE T n p)), M2, ?_, ?_, (FC.frx f1).tr FC.fl, fm2, Or.inl ⟨FT.mk5 t5 f3 f4, ⟨_, c1.fl⟩, h, g, R1.1, hb.2.1, hb.2.2⟩⟩
    · rw [eC, hk]
      unfold f_P_expression_b56
      rw [lt_e, if_neg m1_lt.2, C_refuse c1 z1, ob_s]
    · rw [eM, e2, ob_s, if_neg (by rw [f3]; exact (fcd_pos 5).2.1)]
      unfold f_M_begin_b137 f_M_begin_b150
      rw [lt_e, if_pos m1_lt.1, M_mustF nz, ob2_s, if_pos rfl]
  · have eM2 : f_M_begin FU st (pI (prO (fs.map Prod.fst))) M = f_M_begin_b137 FU (nI a) (kOf st T n (tkE T n p)) M2 := by
      rw [eM, e2, ob_s, if_pos (by rw [z3]; exact Int32.le_refl _), M_change T2, M_stable T2, ob_s, ob_s]
      unfold kOf
      split <;> rfl
    rcases kOf_v st T n (tkE T n p) with hk | ⟨hk2, κ, κ1, κ2, hk⟩
    · refine ⟨cfl C1 (tkS T n (tkE T n p)) (sk T n (tkE T n p)), mfl M2 (tkS T n (tkE T n p)) (sk T n (tkE T n p)), ?_, ?_, (FC.frx f1).tr FC.fl, fm2.tr FM.fl, Or.inl ⟨FT.mk, ⟨_, c1.fl⟩, h, g, R1.1, hb.2.1, hb.2.2⟩⟩
      · rw [eC, hk]
        unfold f_P_expression_b56
        rw [lt_e, if_neg m1_lt.2, C_refuse c1 z1, ob_s]
      · rw [eM2, hk]
        unfold f_M_begin_b137 f_M_begin_b150
        rw [lt_e, if_pos m1_lt.1, M_mustN T2 z3 (Or.inl rfl), ob2_s, if_pos rfl]
    · -- a word
      obtain ⟨C2, eC2, c2, f2⟩ := C_next c1
      have R2 := R1.frx f2
      obtain ⟨C3, h', eC3, P3, hah, hh', bg⟩ := P_begin_e (κ := nI κ) (pl := nI (sk T n p)) (v := nI (thr v0 fs)) R2.1 R2.2.2.1 R2.2.1.1 (by omega) R2.2.2.2.2.2.2.2.1 (by omega) R2.ho
      have c3 := bg.cv c2
      have fc3 := bg.fc
      obtain ⟨b1, ⟨n0, n1, n2, n3, n4, n5, n8, n9, n10, n6, n7⟩, b3, b4, b5, b6⟩ := bg
      have hle : prO (fs.map Prod.fst) ≤ a := prO_le (fun t ht => (r7.2.2.2.1 t ht).1)
      have d3 : gF C3 0 6 = nI fs.length := by rw [b3 0 6 (by omega) (by omega) (by omega)]; exact R2.2.2.2.2.2.2.2.1
      obtain ⟨C', g', eC4, P', hdg, hg', op⟩ := C_b83 (a := a) (κ := κ) (v := thr v0 fs) (y := 1000 + 2 * a) P3 d3 r2.2.1 (by omega) b1 κ2
      have fc4 := op.fc
      obtain ⟨o1, ⟨q0, q1, q2, q3⟩, o3, o4, o5⟩ := op
      have c4 : CV C' T n (tkE T n (tkE T n p)) := c3.cg (fun k => o3 1 k (by omega) (by omega)) (fun k => o3 2 k (by omega) (by omega)) (fun k => o4 1 k (by omega)) (fun k => o5 1 k (by decide) (by omega))
      have hgo2 := tkE_go (T := T) he (by omega)
      obtain ⟨-, he2⟩ := tkE_le (T := T) he
      -- the model goes on
      have x31 : gF M2 200 31 = nI (rows fs).length := by rw [fr2.2.1 31 (by decide) (by decide) (by decide) (by decide) (by decide) (by decide), m3 200 31 (by omega) (by omega), hRM.2.1]
      have x32 : gF M2 200 32 = nI (thr v0 fs) := by rw [fr2.2.1 32 (by decide) (by decide) (by decide) (by decide) (by decide) (by decide), m3 200 32 (by omega) (by omega), hRM.2.2]
      have xD : Due (sF M2 220 a (nI κ)) (rows fs) := hRM.1.cg (fun k _ => ⟨by rw [rFi (by decide), (fr2.1 229 k (by decide)).1, m3 229 k (by omega) (by omega)], by rw [rFi (by decide), (fr2.1 230 k (by decide)).1, m3 230 k (by omega) (by omega)]⟩)
      have hrl := rows_len r9
      obtain ⟨M', e3, D', dl', g1, g2, g3, g4⟩ := expect_e (M := sF M2 220 a (nI κ)) (a := a) κ1 κ2 (by omega) rFy xD (by rw [rFi (by decide), x31]) (by omega)
      have mF : ∀ i k, i ≠ 229 → i ≠ 230 → ¬ (i = 200 ∧ k = 31) → ¬ (i = 220 ∧ k = a) → gF M' i k = gF M2 i k := fun i k h1 h2 h3 h4 => by rw [g1 i k h1 h2 h3, rF, if_neg h4]
      have mN : ∀ i, 220 < i → i ≤ 226 → gF M' i a = gF M1 i a := fun i h1 h2 => by rw [mF i a (by omega) (by omega) (by omega) (by omega), (fr2.1 i a (by omega)).1]
      have mL : ∀ i, 227 ≤ i → i ≤ 228 → gL M' i a = gL M1 i a := fun i h1 h2 => by rw [g2 i a, rLF, (fr2.1 i a (by omega)).2]
      have cN : ∀ k, gF C' (1000 + 2 * a) k = gF C3 (1000 + 2 * a) k := fun k => o3 _ k (by omega) (by omega)
      have cL : ∀ k, gL C' (1000 + 2 * a) k = gL C3 (1000 + 2 * a) k := fun k => o4 _ k (by omega)
      refine ⟨C', M', ?_, ?_, (((FC.frx f1).tr (FC.frx f2)).tr fc3).tr fc4, ?_, Or.inr ⟨_, h', g', _, _, _, (a, κ, 0) :: fs, Nat.lt_trans hgo hgo2, ⟨c4, ?_, ?_, he2, hM.2.2.1, fun j hj => ?_⟩, ⟨?_, ?_, ?_, ?_⟩, ⟨by omega, by omega, by omega⟩, R2.opnd (C' := C') (M' := M') (h' := h') (g' := g') (κ := κ) (M := M) rfl P' hah hdg ?_ ?_ ⟨?_, ?_, ?_, ?_, ?_, ?_, ?_, ?_, ?_⟩ ?_ ?_ ?_ (fun j k hj hk => ?_) (fun j k hj => ?_) (fun q => ?_) (fun i j h1 h2 hj => ?_) (fun i j h1 h2 hj => ?_) o1 q0 q1 q2 q3 ?_ ?_ (fun i k hi => ⟨?_, ?_⟩) ⟨κ1, κ2⟩, D', dl', ?_⟩⟩
      · rw [eC, hk]
        unfold f_P_expression_b56
        rw [lt_e, if_pos (nI_pos' (by omega)), eC2, ob_s, eC3, ob2_s, eC4]
      · rw [eM2, hk]
        unfold f_M_begin_b137 f_M_begin_b150
        rw [lt_e, if_neg (nI_pos (by omega)), M_mustY T2 z3 (by decide) (by omega), ob2_s, if_neg (by decide), gd_pos (in_n (by omega) (by decide)), lt_e, cl_n (by omega), e3, ob_s]
      · exact (fm2.tr (FM.sF (Or.inl ⟨by decide, by decide⟩))).tr ⟨fun i k q => ⟨g1 i k (by omega) (by omega) (by omega), g2 i k⟩, fun k q => g1 200 k (by decide) (by decide) (by omega), g3, g4⟩
      · rw [mF 200 2 (by decide) (by decide) (by decide) (by omega), L2.1]
      · rw [mF 200 5 (by decide) (by decide) (by decide) (by omega), L2.2.1]
      · rw [mF 201 j (by decide) (by decide) (by omega) (by omega), L2.2.2.2.2 j hj]
      · rw [o3 0 7 (by omega) (by omega), b3 0 7 (by omega) (by omega) (by omega), (f2.1 0 7 (by decide)).1, z1]
      · rw [mF 200 3 (by decide) (by decide) (by decide) (by omega), z3]
      · rw [o3 0 8 (by omega) (by omega), b3 0 8 (by omega) (by omega) (by omega), (f2.1 0 8 (by decide)).1, (f1.1 0 8 (by decide)).1, hz.2.2.1]
      · rw [mF 200 4 (by decide) (by decide) (by decide) (by omega), z4, m3 200 4 (by omega) (by omega), hz.2.2.2]
      · rw [o3 0 2 (by omega) (by omega), b1]
      · rw [mF 200 19 (by decide) (by decide) (by decide) (by omega), fr2.2.1 19 (by decide) (by decide) (by decide) (by decide) (by decide) (by decide), m1]
      · rw [g1 220 a (by decide) (by decide) (by omega), rFy, cN, n0]
      · rw [mN 222 (by decide) (by decide), k2, cN, n3, hM.2.2.2.2.2.1]
      · rw [mN 221 (by decide) (by decide), k1, cN, n4]
      · rw [mN 225 (by decide) (by decide), k6, cN, n5, hRM.2.2]
      · rw [mN 223 (by decide) (by decide), k3, cN, n8]
      · rw [mN 224 (by decide) (by decide), k4, cN, n9]
      · rw [mN 226 (by decide) (by decide), k5, cN, n10]
      · rw [mL 227 (by decide) (by decide), k7, cL, n6]
      · rw [mL 228 (by decide) (by decide), k8, cL, n7]
      · rw [cN, n4]
      · rw [cN, n2]
      · rw [cN, n1]
      · rw [o3 _ k (by omega) (by omega), b3 _ k (by omega) (by omega) (fun q => hk ⟨by omega, q.2.2⟩)]
      · rw [o4 _ k (by omega), b5 _ k (by omega)]
      · rw [o3 _ _ (by omega) (by omega), b4 q]
      · rw [mF i j (by omega) (by omega) (by omega) (by omega), (fr2.1 i j (by omega)).1, m3 i j (by omega) (by omega)]
      · rw [g2 i j, rLF, (fr2.1 i j (by omega)).2, m4 i j (by omega)]
      · rw [cN, n0]
      · rw [cN, n5]
      · rw [o3 _ k (by omega) (by omega), b3 _ k (by omega) (by omega) (by omega)]
      · rw [o5 _ k (by omega) (by omega), b6 _ k (by omega) (by omega)]
      · rw [mF 200 32 (by decide) (by decide) (by decide) (by omega), x32]
        show _ = nI (thr v0 fs + dr κ 0)
        rw [(tb_0 κ κ2 κ1).1, Nat.add_zero]
/-- an expression begins -/
theorem EXPR {C M : HS} {T : Nat → Int32} {n p a h g : Nat} {pr al pt : Nat → Nat} {fs : List (Nat × Nat × Nat)} {v0 : Nat} {st : Int32} (hst : st = 0 ∨ st = 1) (hC : CV C T n p) (hM : MT M T n p) (hz : gF C 0 7 = 0 ∧ gF M 200 3 = 0 ∧ gF C 0 8 = -1 ∧ gF M 200 4 = -1) (hb : a ≤ p ∧ h ≤ 600 ∧ g ≤ 600) (hn : n ≤ 512) (hR : RB C M a h g pr al pt fs v0) (hRM : RM M fs v0) :
    ∃ C' M', f_P_expression FU st (nI (thr v0 fs)) C = some C' ∧ f_M_begin FU st (pI (prO (fs.map Prod.fst))) M = some M' ∧ FC C C' ∧ FM M M' ∧ (FTR C' M' T n ∨ ∃ p' h' g' pr' al' pt' fs', p < p' ∧ RW C' M' T n p' (a + 1) h' g' pr' al' pt' fs' v0) := by
  by_cases hs : tkS T n p = 0
  · exact EX_par hst hC hM hz hb hn hR hRM hs
  have hs6 := tkS_lt T n p
  have hs5 := hM.2.2.2.2.2.2.2.2.2
  have hp := hM.2.1
  obtain ⟨r1, r2, r3, r4, r5, r6, r7, r8, r9⟩ := id hR
  by_cases hN : st = 0 ∨ (tkS T n p ≠ 3 ∧ mwF T n p = 0 ∧ ¬ (tkS T n p = 2 ∧ tkW T n p = spc 302))
  · refine ⟨_, _, C_exprN hst hC hz.1 hs hN, (M_b81 hst hM hN).trans (M_b81N hM hz.2.1 hs), FC.fl, FM.fl, Or.inl ⟨FT.mk, ⟨p, hC.fl⟩, h, g, r1, hb.2.1, hb.2.2⟩⟩
  have h1 : st = 1 := hst.resolve_left (fun q => hN (Or.inl q))
  subst h1
  have hfd : fs.length ≤ 4200 := by omega
  by_cases h3 : tkS T n p = 3
  · obtain ⟨C', h', e1, c1, P', a1, a2, l⟩ := C_leaf (κ := 0) (v := thr v0 fs) hC r1 r3 r2.1 (by omega) r8 hfd hR.ho (Or.inl rfl) (fun _ => h3) (fun q => absurd q (by decide))
    obtain ⟨M', e2, m⟩ := M_num (o := pI (prO (fs.map Prod.fst))) hM r4 (by omega) h3
    exact ⟨C', M', (C_expr3 hC h3).trans e1, e2, l.fc, m.fm, Or.inr (EX_leaf hM hz hb hn hR hRM (by omega) c1 P' a1 a2 l m)⟩
  · by_cases hn2 : tkS T n p = 2 ∧ tkW T n p = spc 302
    · obtain ⟨C', h', e1, c1, P', a1, a2, l⟩ := C_leaf (κ := 2) (v := thr v0 fs) hC r1 r3 r2.1 (by omega) r8 hfd hR.ho (Or.inr (Or.inr rfl)) (fun q => absurd q (by decide)) (fun q => absurd q (by decide))
      obtain ⟨M', e2, m⟩ := M_nil (o := pI (prO (fs.map Prod.fst))) hM r4 (by omega) hn2.1 hn2.2
      exact ⟨C', M', (C_expr2 hC hn2.1 hn2.2).trans e1, e2, l.fc, m.fm, Or.inr (EX_leaf hM hz hb hn hR hRM (by omega) c1 P' a1 a2 l m)⟩
    · have hF : mwF T n p = 1 := by
        rcases mwF_01 T n p with q | q
        · exact absurd (Or.inr ⟨h3, q, hn2⟩) hN
        · exact q
      have h2 : tkS T n p = 2 := by
        refine Decidable.byContradiction (fun q => ?_)
        rw [mwF_no q] at hF
        exact absurd hF (by decide)
      obtain ⟨C', h', e1, c1, P', a1, a2, l⟩ := C_leaf (κ := 1) (v := thr v0 fs) hC r1 r3 r2.1 (by omega) r8 hfd hR.ho (Or.inr (Or.inl rfl)) (fun q => absurd q (by decide)) (fun _ => h2)
      obtain ⟨M', e2, m⟩ := M_nam (o := pI (prO (fs.map Prod.fst))) hM r4 (by omega) h2 hF
      exact ⟨C', M', (C_expr1 hC h2 (fun q => hn2 ⟨h2, q⟩) hF).trans e1, e2, l.fc, m.fm, Or.inr (EX_leaf hM hz hb hn hR hRM (by omega) c1 P' a1 a2 l m)⟩
