-- one step of what has to come, in the model
def mdis (v3 v5 : Int32) (S6 : HS) : Option HS :=
  (if v3 = (1 : Int32) then
  f_M_step_b128 FU v3 v5 S6
  else
  (if v3 = (2 : Int32) then
  f_M_step_b128 FU v3 v5 S6
  else
  (if v3 = (3 : Int32) then
  (if (gF S6 200 6) = (1 : Int32) then
  f_M_step_b160 FU (1 : Int32) S6
  else
  f_M_step_b160 FU (0 : Int32) S6)
  else
  (if v3 = (4 : Int32) then
  (if (gF S6 200 6) = 0 then
  f_M_step_b180 FU (1 : Int32) S6
  else
  f_M_step_b180 FU (0 : Int32) S6)
  else
  (if v3 = (5 : Int32) then
  ob (f_M_isOwn FU S6) fun r7 =>
  ob2 (f_M_must r7 S6) fun r9 S8 =>
  (if r9 = 0 then
  some S8
  else
  ob (f_M_setName v5 S8) fun S10 =>
  gd (inR v5 8192) <|
  (if (gF S10 220 v5.toNatClampNeg) = (11 : Int32) then
  f_M_step_b225 FU v5 S10
  else
  gd (inR v5 8192) <|
  (if (gF S10 220 v5.toNatClampNeg) = (21 : Int32) then
  f_M_step_b225 FU v5 S10
  else
  ob (f_M_bind S10) fun S13 =>
  some S13)))
  else
  (if v3 = (6 : Int32) then
  ob (f_M_isOwn FU S6) fun r14 =>
  (if r14 = 0 then
  f_M_step_b266 FU v5 S6
  else
  gd (inR v5 8192) <|
  (if (lg_cmp (gL S6 200 8) (gL S6 227 v5.toNatClampNeg)) = 0 then
  f_M_step_b266 FU v5 S6
  else
  f_M_step_b267 FU v5 (1 : Int32) S6))
  else
  (if v3 = (7 : Int32) then
  (if (gF S6 200 6) = (1 : Int32) then
  lt (sF S6 200 31 ((gF S6 200 31) - (1 : Int32))) fun S16 =>
  some S16
  else
  ob (f_M_push (7 : Int32) v5 S6) fun S17 =>
  ob (f_M_begin FU (1 : Int32) v5 S17) fun S18 =>
  some S18)
  else
  ob (f_M_isOwn FU S6) fun r19 =>
  ob2 (f_M_must r19 S6) fun r21 S20 =>
  (if r21 = 0 then
  some S20
  else
  ob (f_M_setName v5 S20) fun S22 =>
  some S22))))))))
theorem M_STEP {M : HS} {l : List (Nat × Int32)} {w : Nat} {o : Int32} (hD : Due M ((w, o) :: l)) (hd : gF M 200 31 = nI (l.length + 1)) (hl : l.length < 33000) (hw : w < 128) (h8 : w ≠ 8) : f_M_step FU M = ob (f_M_next FU (sF M 200 31 (nI l.length))) fun S6 => (if (gF S6 200 3) ≤ 0 then mdis (nI w) o S6 else some S6) := by
  unfold f_M_step
  rw [hd, nI_pred, lt_e, rFy, gd_pos (in_n hl (by decide)), lt_e, gd_pos (in_n hl (by decide)), lt_e, cl_n (by omega), rFi (by decide), rFi (by decide), hD.1, hD.2.1, if_neg (show ¬ nI w = (8 : Int32) from nI_ne (b := 8) (by omega) (by decide) h8)]
  rfl
theorem M_LOOP {M : HS} {l : List (Nat × Int32)} {w : Nat} {o : Int32} (km : Nat) (hD : Due M ((w, o) :: l)) (hd : gF M 200 31 = nI (l.length + 1)) (hl : l.length < 33000) (hw : w < 128) (h10 : w ≠ 10) (h0 : gF M 200 3 = 0) : f_M_expression_b19 FU (km + 1) M = ob (f_M_step FU M) (f_M_expression_b19 FU km) := by
  show f_M_expression_b19B FU (f_M_expression_b19 FU km) M = _
  unfold f_M_expression_b19B
  rw [hd, if_neg (nI_nle (by omega) (by omega)), if_pos h0, nI_pred, gd_pos (in_n hl (by decide)), cl_n (by omega), hD.1, if_neg (show ¬ nI w = (10 : Int32) from nI_ne (b := 10) (by omega) (by decide) h10)]
def rowN (k κ s : Nat) : List (Nat × Int32) := (nr κ s).map (fun w => (w, nI k))
def RN (M : HS) (k κ s : Nat) (fs : List (Nat × Nat × Nat)) (v0 : Nat) : Prop := Due M (rowN k κ s ++ rows fs) ∧ gF M 200 31 = nI (rowN k κ s ++ rows fs).length ∧ gF M 200 32 = nI (thr v0 fs + dn κ s)
def RWN (C M : HS) (T : Nat → Int32) (n p a h g : Nat) (pr al pt : Nat → Nat) (k κ s : Nat) (fs : List (Nat × Nat × Nat)) (v0 : Nat) : Prop :=
  (CV C T n p ∧ LexM M T n p) ∧ (gF C 0 7 = 0 ∧ gF M 200 3 = 0 ∧ gF C 0 8 = -1 ∧ gF M 200 4 = -1) ∧ (a ≤ p ∧ h ≤ 600 ∧ g ≤ 600) ∧ RB C M a h g pr al pt ((k, κ, s) :: fs) v0 ∧ RN M k κ s fs v0
theorem LexM.cg {M M' : HS} {T : Nat → Int32} {n p : Nat} (h : LexM M T n p) (h2 : gF M' 200 2 = gF M 200 2) (h5 : gF M' 200 5 = gF M 200 5) (hT : ∀ j, gF M' 201 j = gF M 201 j) : LexM M' T n p := ⟨h2.trans h.1, h5.trans h.2.1, h.2.2.1, h.2.2.2.1, fun j hj => (hT j).trans (h.2.2.2.2 j hj)⟩
/-- the model alone: what comes into sight, or goes out of it -/
theorem SILENT {C M : HS} {T : Nat → Int32} {n p a h g : Nat} {pr al pt : Nat → Nat} {k κ s : Nat} {fs : List (Nat × Nat × Nat)} {v0 : Nat} (H : RW C M T n p a h g pr al pt ((k, κ, s) :: fs) v0) : ∃ M' d, d ≤ 1 ∧ (∀ km, f_M_expression_b19 FU (km + d) M = f_M_expression_b19 FU km M') ∧ FM M M' ∧ RWN C M' T n p a h g pr al pt k κ s fs v0 := by
  obtain ⟨⟨hC, hL⟩, hz, hb, hR, hD, hd, ht⟩ := H
  have r9 := hR.2.2.2.2.2.2.2.2
  have hk := r9.1
  have hrl := rows_len r9.2.2.2.2.2.2.2.2
  have hll := hR.2.1.2.1
  rw [List.length_cons] at hll
  have h9 := tb_len κ hk.2.1 s
  have hr2 : (rows ((k, κ, s) :: fs)) = row k κ s ++ rows fs := rfl
  have ht2 : thr v0 ((k, κ, s) :: fs) = thr v0 fs + dr κ s := rfl
  rw [hr2] at hD hd
  rw [ht2] at ht
  have h2 := hR.2.2.2.2.2.1
  rcases tb_sil κ hk.2.1 hk.1 s (Nat.lt_of_lt_of_le hk.2.2.1 (flm_le κ hk.2.1)) with ⟨e1, e2, -⟩ | ⟨e1, e2⟩ | ⟨e1, e2⟩
  · refine ⟨M, 0, by decide, fun km => rfl, FM.rf, ⟨hC, hL⟩, hz, hb, hR, ?_, ?_, ?_⟩
    · unfold rowN; rw [← e1]; exact hD
    · unfold rowN; rw [← e1]; exact hd
    · rw [e2]; exact ht
  · have er : row k κ s ++ rows fs = (10, nI k) :: (rowN k κ s ++ rows fs) := by unfold row rowN; rw [e1]; rfl
    have hln : (rowN k κ s ++ rows fs).length < 33000 := by
      have : (row k κ s ++ rows fs).length = (rowN k κ s ++ rows fs).length + 1 := by rw [er]; rfl
      rw [List.length_append] at this
      unfold row at this
      rw [List.length_map] at this
      omega
    rw [er] at hD hd
    rw [List.length_cons] at hd
    refine ⟨sF (sF M 200 31 (nI (rowN k κ s ++ rows fs).length)) 200 32 (nI (thr v0 fs + dn κ s)), 1, by decide, fun km => ?_, (FM.sF (Or.inr ⟨rfl, by decide, by decide, by decide⟩)).tr (FM.sF (Or.inr ⟨rfl, by decide, by decide, by decide⟩)), ⟨hC, hL.cg rfl rfl (fun _ => rfl)⟩, hz, hb, hR.cg rfl rfl (fun _ _ _ => rfl) (fun _ _ _ => rfl) (fun _ _ _ => rfl) rfl rfl (fun i q h1 h2 => by rw [rFi (by omega), rFi (by omega)]) (fun _ _ _ _ => rfl), hD.2.2.cg (fun q _ => ⟨rfl, rfl⟩), rfl, rfl⟩
    show f_M_expression_b19B FU (f_M_expression_b19 FU km) M = _
    unfold f_M_expression_b19B
    rw [hd, if_neg (nI_nle (by omega) (by omega)), if_pos hz.2.1, nI_pred, gd_pos (in_n hln (by decide)), cl_n (by omega), hD.1, if_pos (show nI (10, nI k).1 = (10 : Int32) from rfl), lt_e, lt_e, rFk (show (32 : Nat) ≠ 31 by decide), ht, nI_1, e2]
    rfl
  · have er : row k κ s ++ rows fs = (8, nI k) :: (rowN k κ s ++ rows fs) := by unfold row rowN; rw [e1]; rfl
    have hln : (rowN k κ s ++ rows fs).length < 33000 := by
      have : (row k κ s ++ rows fs).length = (rowN k κ s ++ rows fs).length + 1 := by rw [er]; rfl
      rw [List.length_append] at this
      unfold row at this
      rw [List.length_map] at this
      omega
    rw [er] at hD hd
    rw [List.length_cons] at hd
    have hka : k < 8192 := by have := hk.2.2.2; have := hR.2.1.1; omega
    have hkd : gF M 220 k = nI κ := by rw [(hR.2.2.2.2.1 k hk.2.2.2).1, r9.2.2.2.2.2.1]
    have est : f_M_step FU M = some (sF (sF M 200 31 (nI (rowN k κ s ++ rows fs).length)) 200 32 (nI (thr v0 fs + dn κ s))) := by
      unfold f_M_step
      rw [hd, nI_pred, lt_e, rFy, gd_pos (in_n hln (by decide)), lt_e, gd_pos (in_n hln (by decide)), lt_e, cl_n (by omega), rFi (by decide), rFi (by decide), hD.1, hD.2.1, if_pos (show nI (8, nI k).1 = (8 : Int32) from rfl), gd_pos (in_n hka (by decide)), gd_pos (in_n hka (by decide)), cl_n (show k < 2 ^ 31 by omega), rFi (by decide), hkd]
      unfold f_M_step_b63 f_M_step_b68
      rw [lt_e, lt_e, rFk (show (32 : Nat) ≠ 31 by decide), ht, e2]
      by_cases q12 : κ = 12
      · rw [q12, if_pos (show nI 12 = (12 : Int32) from rfl), if_pos (Or.inl rfl), show (2 : Int32) = nI 2 from rfl, pk_sub (by omega), show thr v0 fs + (dn 12 s + 2) - 2 = thr v0 fs + dn 12 s by omega]
      · rw [if_neg (show ¬ nI κ = (12 : Int32) from nI_ne (b := 12) (by omega) (by decide) q12)]
        by_cases q22 : κ = 22
        · rw [q22, if_pos (show nI 22 = (22 : Int32) from rfl), if_pos (Or.inr rfl), show (2 : Int32) = nI 2 from rfl, pk_sub (by omega), show thr v0 fs + (dn 22 s + 2) - 2 = thr v0 fs + dn 22 s by omega]
        · rw [if_neg (show ¬ nI κ = (22 : Int32) from nI_ne (b := 22) (by omega) (by decide) q22), if_neg (by omega), show (1 : Int32) = nI 1 from rfl, pk_sub (by omega), show thr v0 fs + (dn κ s + 1) - 1 = thr v0 fs + dn κ s by omega]
    refine ⟨sF (sF M 200 31 (nI (rowN k κ s ++ rows fs).length)) 200 32 (nI (thr v0 fs + dn κ s)), 1, by decide, fun km => ?_, (FM.sF (Or.inr ⟨rfl, by decide, by decide, by decide⟩)).tr (FM.sF (Or.inr ⟨rfl, by decide, by decide, by decide⟩)), ⟨hC, hL.cg rfl rfl (fun _ => rfl)⟩, hz, hb, hR.cg rfl rfl (fun _ _ _ => rfl) (fun _ _ _ => rfl) (fun _ _ _ => rfl) rfl rfl (fun i q h1 h2 => by rw [rFi (by omega), rFi (by omega)]) (fun _ _ _ _ => rfl), hD.2.2.cg (fun q _ => ⟨rfl, rfl⟩), rfl, rfl⟩
    rw [M_LOOP km hD hd hln (by decide) (by decide) hz.2.1, est, ob_s]
