-- a whole body
def hdok : List Nat → Bool
  | [] => false
  | w :: _ => decide (w < 128 ∧ w ≠ 8 ∧ w ≠ 10)
theorem tb_hd : ∀ κ, κ < 24 → ∀ s, s < 8 → tbq κ s = true → hdok (nr κ s) = true := fun κ h s h8 => of_decide_eq_true (chk2 (P := fun κ s => decide (tbq κ s = true → hdok (nr κ s) = true)) (by decide +kernel) κ h s h8)
theorem ST_all {C M : HS} {T : Nat → Int32} {n p a h g : Nat} {pr al pt : Nat → Nat} {k κ s : Nat} {fs : List (Nat × Nat × Nat)} {v0 : Nat} (H : RWN C M T n p a h g pr al pt k κ s fs v0) (hn : n ≤ 512) : ∃ C' M' d, (d = 1 ∨ d = 2) ∧ (∀ kc, f_P_body_b25 FU (kc + d) C = f_P_body_b25 FU kc C') ∧ (∀ km, f_M_expression_b19 FU (km + 1) M = f_M_expression_b19 FU km M') ∧ OUT C M C' M' T n p v0 := by
  have b4 := H.2.2.2.1.2.2.2.2.2.2.2.2.1
  have hsl : s < flen κ := Nat.lt_of_lt_of_le b4.2.2.1 (flm_le κ b4.2.1)
  have h8 : s < 8 := Nat.lt_of_lt_of_le hsl (tb_fm κ b4.2.1).2.2.1
  have hL : ∀ km, f_M_expression_b19 FU (km + 1) M = ob (f_M_step FU M) (f_M_expression_b19 FU km) := by
    have := tb_hd κ b4.2.1 s h8 (decide_eq_true ⟨b4.1, hsl⟩)
    cases hr : nr κ s with
    | nil => rw [hr] at this; cases this
    | cons w r =>
      rw [hr] at this
      obtain ⟨w1, w2, w3⟩ := of_decide_eq_true (show decide (w < 128 ∧ w ≠ 8 ∧ w ≠ 10) = true from this)
      obtain ⟨S6, -, -, -, -, -, -, -, -, -, hl⟩ := M_POP H hr w1 w2
      intro km
      have := hl km
      rw [if_neg w3] at this
      exact this
  have one : (∃ C' M', f_P_step FU (1001 + 2 * fs.length) C = some C' ∧ f_M_step FU M = some M' ∧ OUT C M C' M' T n p v0) → ∃ C' M' d, (d = 1 ∨ d = 2) ∧ (∀ kc, f_P_body_b25 FU (kc + d) C = f_P_body_b25 FU kc C') ∧ (∀ km, f_M_expression_b19 FU (km + 1) M = f_M_expression_b19 FU km M') ∧ OUT C M C' M' T n p v0 := by
    rintro ⟨C', M', e1, e2, o⟩
    exact ⟨C', M', 1, Or.inl rfl, fun kc => by rw [C_LOOP kc H, e1, ob_s], fun km => by rw [hL km, e2, ob_s], o⟩
  rcases tb_ch κ b4.2.1 b4.1 s h8 hsl with q | q | q | q | q | q | q | q
  · exact one (ST_ex H hn h8 (Or.inl q))
  · exact one (ST_ex H hn h8 (Or.inr q))
  · exact one (ST_x H h8 q)
  · exact one (ST_y H h8 q)
  · exact one (ST_f H h8 q)
  · exact one (ST_o H h8 q)
  · exact one (ST_c H h8 q)
  · by_cases h1 : tkS T n p = 1
    · obtain ⟨C', M', e1, e2, o⟩ := ST_e H h8 q h1
      exact ⟨C', M', 2, Or.inr rfl, e1, fun km => by rw [hL km, e2, ob_s], o⟩
    · exact one (ST_s H hn h8 q h1)
theorem BODY {T : Nat → Int32} {n v0 : Nat} (hn : n ≤ 512) : ∀ (m : Nat) {C M : HS} {p a h g : Nat} {pr al pt : Nat → Nat} {fs : List (Nat × Nat × Nat)}, n - p < m → RW C M T n p a h g pr al pt fs v0 → ∀ kc km, 2 * (n - p) + 4 ≤ kc → 2 * (n - p) + 4 ≤ km → ∃ C' M', f_P_body_b25 FU kc C = some C' ∧ f_M_expression_b19 FU km M = some M' ∧ FC C C' ∧ FM M M' ∧ (FTR C' M' T n ∨ ∃ p' a' h' g' pr' al' pt', p ≤ p' ∧ RW C' M' T n p' a' h' g' pr' al' pt' [] v0)
  | 0, _, _, p, _, _, _, _, _, _, _, hm, _ => absurd hm (by omega)
  | m + 1, C, M, p, a, h, g, pr, al, pt, fs, hm, H => by
    intro kc km hkc hkm
    cases fs with
    | nil =>
      obtain ⟨k1, rfl⟩ : ∃ k1, kc = k1 + 1 := ⟨kc - 1, by omega⟩
      obtain ⟨k2, rfl⟩ : ∃ k2, km = k2 + 1 := ⟨km - 1, by omega⟩
      refine ⟨C, M, ?_, ?_, FC.rf, FM.rf, Or.inr ⟨p, a, h, g, pr, al, pt, Nat.le_refl _, H⟩⟩
      · show f_P_body_b25B FU (f_P_body_b25 FU k1) C = _
        unfold f_P_body_b25B
        have h6 : gF C 0 6 = nI 0 := H.2.2.2.1.2.2.2.2.2.2.2.1
        rw [if_pos H.2.1.1, h6, if_pos (show nI 0 ≤ (0 : Int32) by decide)]
      · show f_M_expression_b19B FU (f_M_expression_b19 FU k2) M = _
        unfold f_M_expression_b19B
        have h31 : gF M 200 31 = nI 0 := H.2.2.2.2.2.1
        rw [h31, if_pos (show nI 0 ≤ (0 : Int32) by decide)]
    | cons x fs =>
      obtain ⟨k, κ, s⟩ := x
      obtain ⟨M1, d, hd, e1, fm1, H1⟩ := SILENT H
      obtain ⟨C', M', d', hd', eC, eM, fc, fm, out⟩ := ST_all H1 hn
      obtain ⟨k1, rfl⟩ : ∃ k1, kc = k1 + d' := ⟨kc - d', by omega⟩
      obtain ⟨k2, rfl⟩ : ∃ k2, km = k2 + 1 + d := ⟨km - d - 1, by omega⟩
      rw [eC k1, e1 (k2 + 1), eM k2]
      rcases out with F | ⟨p', a', h', g', pr', al', pt', fs', hp', H'⟩
      · obtain ⟨k3, rfl⟩ : ∃ k3, k1 = k3 + 1 := ⟨k1 - 1, by omega⟩
        obtain ⟨k4, rfl⟩ : ∃ k4, k2 = k4 + 1 := ⟨k2 - 1, by omega⟩
        refine ⟨C', M', ?_, ?_, fc, fm1.tr fm, Or.inl F⟩
        · show f_P_body_b25B FU (f_P_body_b25 FU k3) C' = _
          unfold f_P_body_b25B
          rw [if_neg F.1.c.1]
        · show f_M_expression_b19B FU (f_M_expression_b19 FU k4) M' = _
          unfold f_M_expression_b19B
          rw [if_neg F.1.m.1, ite_self]
      · have hpn : p' ≤ n := H'.1.1.2.1
        obtain ⟨C2, M2, q1, q2, q3, q4, q5⟩ := BODY hn m (by omega) H' k1 k2 (by omega) (by omega)
        refine ⟨C2, M2, q1, q2, fc.tr q3, (fm1.tr fm).tr q4, ?_⟩
        rcases q5 with F | ⟨p2, a2, h2, g2, pr2, al2, pt2, hp2, H2⟩
        · exact Or.inl F
        · exact Or.inr ⟨p2, a2, h2, g2, pr2, al2, pt2, by omega, H2⟩
