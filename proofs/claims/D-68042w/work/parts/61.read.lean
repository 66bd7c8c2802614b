-- the whole text is read, on both sides
def RF (C M : HS) (T : Nat → Int32) (n : Nat) : Prop := (∃ a h g pr al pt d, RD C M a h g pr al pt d ∧ a ≤ 512) ∧ gF C 0 7 = gF M 200 3 ∧ gF C 0 8 = gF M 200 4 ∧ gF C 1 1 = nI n ∧ ∀ j, j < n → gF C 2 j = T j
theorem RD.zero {C M : HS} {h g : Nat} (hP : PL C h g) (hb : h ≤ 600 ∧ g ≤ 600) (c2 : gF C 0 2 = 0) (c4 : gF C 0 4 = 0) (m19 : gF M 200 19 = 0) (m10 : gF M 200 10 = 0) : RD C M 0 h g (fun _ => 0) (fun _ => 0) (fun _ => 0) 0 :=
  ⟨hb, ⟨hP, Nat.zero_le _, c2, m19, fun j hj => absurd hj (by omega), fun j hj => absurd hj (by omega), TR.nil _ _ _⟩, c4, m10, Nat.zero_le _, fun j hj => absurd hj (by omega)⟩
theorem FINF {C M : HS} {T : Nat → Int32} {n : Nat} (F : FTR C M T n) : ∃ r C' M', f_P_read_b83 FU C = some (r, C') ∧ f_M_read_b67 FU M = some (r, M') ∧ GC C C' ∧ GM M M' ∧ RF C' M' T n := by
  obtain ⟨⟨s, q, a, b, c, e⟩, ⟨p, hC⟩, h, g, hP, hb⟩ := F
  refine ⟨fcd s, sF (sF C 0 2 0) 0 4 0, sF (sF M 200 10 0) 200 19 0, ?_, ?_, (GC.sF (by decide)).tr (GC.sF (by decide)), (GM.sF ⟨⟨by decide, by decide, by decide⟩, by decide⟩).tr (GM.sF ⟨⟨by decide, by decide, by decide⟩, by decide⟩), ⟨0, h, g, _, _, _, 0, RD.zero (show PL (sF (sF C 0 2 0) 0 4 0) h g from hP) hb (by rw [rFk (by decide), rFy]) rFy rFy (by rw [rFk (by decide), rFy]), by decide⟩, ?_, ?_, ?_, fun j hj => ?_⟩
  · unfold f_P_read_b83
    rw [if_neg (by rw [a]; exact (fcd_pos s).2.1), lt_e, lt_e, rFk (show (7 : Nat) ≠ 4 by decide), rFk (show (7 : Nat) ≠ 2 by decide), a]
  · unfold f_M_read_b67
    rw [if_neg (by rw [b]; exact (fcd_pos s).2.1), lt_e, lt_e, rFk (show (3 : Nat) ≠ 19 by decide), rFk (show (3 : Nat) ≠ 10 by decide), b]
  · rw [rFk (by decide), rFk (by decide), rFk (by decide), rFk (by decide), a, b]
  · rw [rFk (by decide), rFk (by decide), rFk (by decide), rFk (by decide), c, e]
  · rw [rFi (by decide), rFi (by decide), hC.1]
  · rw [rFi (by decide), rFi (by decide), hC.2.2.2.1 j hj]
theorem RLOOP {T : Nat → Int32} {n : Nat} (hn : n ≤ 512) : ∀ (x : Nat) {C M : HS} {p a h g d : Nat} {pr al pt : Nat → Nat}, n - p < x → CV C T n p → LexM M T n p → ZZ C M → a ≤ p → RD C M a h g pr al pt d → ∀ kc km, n - p + 3 ≤ kc → n - p + 3 ≤ km → ∃ r C' M', f_P_read_b27 FU kc C = some (r, C') ∧ (ob (f_M_next FU M) fun S => f_M_read_b34 FU km S) = some (r, M') ∧ GC C C' ∧ GM M M' ∧ RF C' M' T n
  | 0, _, _, _, _, _, _, _, _, _, _, hx => absurd hx (by omega)
  | x + 1, C, M, p, a, h, g, d, pr, al, pt, hx => by
    intro hC hL hz hap hR kc km hkc hkm
    have hP := hR.2.1.1
    have hb := hR.1
    have hd64 := hR.2.2.2.2.1
    obtain ⟨hgx, hso⟩ := hC.so
    have hs6 := tkS_lt T n p
    obtain ⟨k1, rfl⟩ : ∃ k1, kc = k1 + 2 := ⟨kc - 2, by omega⟩
    obtain ⟨k2, rfl⟩ : ∃ k2, km = k2 + 2 := ⟨km - 2, by omega⟩
    obtain ⟨M1, e1, fr1, L1, tk⟩ := M_tok hL hz.2.1
    have gm1 : GM M M1 := GM.frm fr1
    have R1 := hR.frm fr1
    have eC : f_P_read_b27 FU (k1 + 2) C = (if tkS T n p = 4 then f_P_read_b83 FU C else (if tkS T n p = 0 then (if (gF C 0 4) = (64 : Int32) then f_P_read_b69 FU (f_P_read_b27 FU (k1 + 1)) C else ob (f_P_readDefinition FU C) fun S11 => f_P_read_b80 FU (f_P_read_b27 FU (k1 + 1)) S11) else f_P_read_b69 FU (f_P_read_b27 FU (k1 + 1)) C)) := by
      show f_P_read_b27B FU (f_P_read_b27 FU (k1 + 1)) C = _
      unfold f_P_read_b27B
      rw [if_pos hz.1, hgx, ob_s, gd_pos ⟨hso, by decide⟩, ob_s, gd_pos ⟨hso, by decide⟩]
      by_cases q4 : tkS T n p = 4
      · rw [if_pos q4, if_pos (by omega)]
      · rw [if_neg q4, if_neg (by omega)]
        by_cases q0 : tkS T n p = 0
        · rw [if_pos q0, if_pos (by omega)]
        · rw [if_neg q0, if_neg (by omega)]
    have e69 : f_P_read_b69 FU (f_P_read_b27 FU (k1 + 1)) C = f_P_read_b83 FU (cfl C (tkS T n p) (sk T n p)) := by
      unfold f_P_read_b69
      rw [C_refuse hC hz.1, ob_s]
      show f_P_read_b27B FU (f_P_read_b27 FU k1) (cfl C (tkS T n p) (sk T n p)) = _
      unfold f_P_read_b27B
      rw [if_neg (show ¬ gF (cfl C (tkS T n p) (sk T n p)) 0 7 = 0 from (fcd_pos _).2.2)]
    have mF : ∀ (j : Nat) (X : HS), ¬ gF X 200 3 = 0 → f_M_read_b34 FU (j + 1) X = f_M_read_b67 FU X := fun j X hX => by
      show f_M_read_b34B FU (f_M_read_b34 FU j) X = _
      unfold f_M_read_b34B
      rw [if_neg hX]
    have cF : ∀ (j : Nat) (X : HS), ¬ gF X 0 7 = 0 → f_P_read_b27 FU (j + 1) X = f_P_read_b83 FU X := fun j X hX => by
      show f_P_read_b27B FU (f_P_read_b27 FU j) X = _
      unfold f_P_read_b27B
      rw [if_neg hX]
    rw [e1, ob_s, eC]
    rcases tk with ⟨t5, f5, f6⟩ | ⟨t5, T1, z3, z4⟩
    · have nz : ¬ gF M1 200 3 = 0 := by rw [f5]; exact (fcd_pos 5).2.2
      rw [if_neg (by omega), if_neg (by omega), e69, mF (k2 + 1) M1 nz]
      obtain ⟨r, C', M', y1, y2, y3, y4, y5⟩ := FINF (T := T) (n := n) (C := cfl C (tkS T n p) (sk T n p)) (M := M1) ⟨FT.mk5 t5 f5 f6, ⟨p, hC.fl⟩, h, g, hP.fl, hb⟩
      exact ⟨r, C', M', y1, y2, (GC.fc FC.fl).tr y3, gm1.tr y4, y5⟩
    · have z1 : ZZ C M1 := ⟨hz.1, z3, hz.2.2.1, z4.trans hz.2.2.2⟩
      have t6 := T1.2.2.2.2.2.2.1
      have eM : f_M_read_b34 FU (k2 + 2) M1 = (if tkS T n p = 4 then f_M_read_b67 FU M1 else ob (f_M_readDefinition FU M1) fun S8 => (if (gF S8 200 3) = 0 then ob (f_M_next FU S8) fun S9 => f_M_read_b34 FU (k2 + 1) S9 else f_M_read_b34 FU (k2 + 1) S8)) := by
        show f_M_read_b34B FU (f_M_read_b34 FU (k2 + 1)) M1 = _
        unfold f_M_read_b34B
        rw [if_pos z3, t6]
        by_cases q4 : tkS T n p = 4
        · rw [if_pos q4, q4, if_pos (show nI 4 = (4 : Int32) from rfl)]
        · rw [if_neg q4, if_neg (show ¬ nI (tkS T n p) = (4 : Int32) from nI_ne (b := 4) (by omega) (by decide) q4)]
      rw [eM]
      by_cases q4 : tkS T n p = 4
      · rw [if_pos q4, if_pos q4]
        refine ⟨0, C, M1, ?_, ?_, GC.rf, gm1, ⟨a, h, g, pr, al, pt, d, R1, by have := hC.2.1; omega⟩, ?_, ?_, hC.1, hC.2.2.2.1⟩
        · unfold f_P_read_b83
          rw [if_pos (by rw [hz.1]; exact Int32.le_refl _), hz.1]
        · unfold f_M_read_b67
          rw [if_pos (by rw [z3]; exact Int32.le_refl _), z3]
        · rw [hz.1, z3]
        · rw [hz.2.2.1, z1.2.2.2]
      · rw [if_neg q4, if_neg q4]
        have bad : f_M_readDefinition FU M1 = f_M_readDefinition_b21 FU M1 → ∃ r C' M', f_P_read_b69 FU (f_P_read_b27 FU (k1 + 1)) C = some (r, C') ∧ (ob (f_M_readDefinition FU M1) fun S8 => (if (gF S8 200 3) = 0 then ob (f_M_next FU S8) fun S9 => f_M_read_b34 FU (k2 + 1) S9 else f_M_read_b34 FU (k2 + 1) S8)) = some (r, M') ∧ GC C C' ∧ GM M M' ∧ RF C' M' T n := fun e => by
          have nz : ¬ gF (mfl M1 (tkS T n p) (sk T n p)) 200 3 = 0 := (fcd_pos _).2.2
          have e21 : f_M_readDefinition_b21 FU M1 = some (mfl M1 (tkS T n p) (sk T n p)) := by
            unfold f_M_readDefinition_b21 f_M_readDefinition_b22
            rw [M_mustN T1 z3 (Or.inl rfl), ob2_s, if_neg (show ¬ gF (mfl M1 (tkS T n p) (sk T n p)) 200 3 ≤ 0 from (fcd_pos _).2.1)]
          rw [e, e21, ob_s, if_neg nz, mF k2 _ nz, e69]
          obtain ⟨r, C', M', y1, y2, y3, y4, y5⟩ := FINF (T := T) (n := n) (C := cfl C (tkS T n p) (sk T n p)) (M := mfl M1 (tkS T n p) (sk T n p)) ⟨FT.mk, ⟨p, hC.fl⟩, h, g, hP.fl, hb⟩
          exact ⟨r, C', M', y1, y2, (GC.fc FC.fl).tr y3, (gm1.tr (GM.fm FM.fl)).tr y4, y5⟩
        by_cases q0 : tkS T n p = 0
        · rw [if_pos q0]
          by_cases qd : d = 64
          · rw [if_pos (by rw [hR.2.2.1, qd]; rfl)]
            refine bad ?_
            unfold f_M_readDefinition
            rw [t6, q0, if_pos (show nI 0 = (0 : Int32) from rfl), R1.2.2.2.1, qd, if_pos (show (64 : Int32) ≤ nI 64 by decide)]
          · rw [if_neg (by rw [hR.2.2.1]; exact nI_ne (b := 64) (by omega) (by decide) qd)]
            obtain ⟨C', M', y1, y2, y3, y4, y5⟩ := DEF0 hn hC T1 q0 z1 hap R1 (by omega)
            unfold f_P_read_b80
            rw [y1, ob_s, y2, ob_s]
            rcases y5 with F | ⟨p', a', h', g', pr', al', pt', hp', ha', c', L', z', R'⟩
            · rw [if_neg F.1.m.1, mF k2 _ F.1.m.1, cF k1 _ F.1.c.1]
              obtain ⟨r, C2, M2, w1, w2, w3, w4, w5⟩ := FINF F
              exact ⟨r, C2, M2, w1, w2, GC.tr y3 w3, gm1.tr (y4.tr w4), w5⟩
            · rw [if_pos z'.2.1]
              have hpn : p' ≤ n := c'.2.1
              obtain ⟨r, C2, M2, w1, w2, w3, w4, w5⟩ := RLOOP hn x (by omega) c' L' z' ha' R' (k1 + 1) (k2 + 1) (by omega) (by omega)
              exact ⟨r, C2, M2, w1, w2, GC.tr y3 w3, gm1.tr (y4.tr w4), w5⟩
        · rw [if_neg q0]
          refine bad ?_
          unfold f_M_readDefinition
          rw [t6, if_neg (show ¬ nI (tkS T n p) = (0 : Int32) from nI_ne (b := 0) (by omega) (by decide) q0)]
