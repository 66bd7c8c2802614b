theorem MT.lex {M : HS} {T : Nat → Int32} {n p : Nat} (h : MT M T n p) : LexM M T n (tkE T n p) := ⟨h.1, h.2.2.2.2.1, (tkE_le (T := T) h.2.1).2, h.2.2.1, h.2.2.2.1⟩
theorem M_b98N {M : HS} {T : Nat → Int32} {n p d : Nat} (h : MT M T n p) (h0 : gF M 200 3 = 0) : f_M_readParameter_b97 FU (nI d) M = some (mfl M (tkS T n p) (sk T n p)) := by
  unfold f_M_readParameter_b97 f_M_readParameter_b98
  rw [M_mustN h h0 (Or.inl rfl), ob2_s, if_neg (show ¬ gF (mfl M (tkS T n p) (sk T n p)) 200 3 ≤ 0 from (fcd_pos _).2.1)]
theorem M_b93F {M : HS} {d : Nat} (h0 : ¬ gF M 200 3 = 0) (h1 : ¬ gF M 200 3 ≤ 0) : f_M_readParameter_b93 FU (nI d) M = some M := by
  unfold f_M_readParameter_b93 f_M_readParameter_b98
  rw [M_mustF h0, ob2_s, if_neg h1]
theorem PARAM {C M : HS} {T : Nat → Int32} {n p a h g : Nat} {pr al pt : Nat → Nat} {d m : Nat} (hC : CV C T n p) (hM : MT M T n p) (hs : tkS T n p = 0) (hz : ZZ C M) (hR : RD C M a h g pr al pt d) (hd : d < 64) (hD : D2 C M d m) : ∃ C' M', f_P_readParameter FU (6 + 3 * d) C = some C' ∧ f_M_readParameter FU (nI d) M = some M' ∧ GC C C' ∧ GM M M' ∧ (FTR C' M' T n ∨ ∃ p', p < p' ∧ CV C' T n p' ∧ LexM M' T n p' ∧ ZZ C' M' ∧ RD C' M' a h g pr al pt d ∧ D2 C' M' d (m + 1)) := by
  have hP := hR.2.1.1
  have hb := hR.1
  have o2 : gF C (6 + 3 * d) 2 = nI m := hD.2.2.2.1
  have n2 : gF M 213 d = nI m := hD.2.2.2.2.1
  have hm8 := hD.2.2.2.2.2.1
  obtain ⟨hx, hso⟩ := hC.so
  have hp := hC.2.1
  have hgo := tkE_go (T := T) hp (by omega)
  by_cases h8 : m = 8
  · -- too many
    subst h8
    obtain ⟨M2, e2, fr2, f3, f4⟩ := M_tokF (M := mfl M (tkS T n p) (sk T n p)) (hM.lex.cg rfl rfl (fun _ => rfl)) (fcd_pos _).2.2
    have nz : ¬ gF M2 200 3 = 0 := by rw [f3]; exact (fcd_pos _).2.2
    have nz1 : ¬ gF M2 200 3 ≤ 0 := by rw [f3]; exact (fcd_pos _).2.1
    have nz2 : 0 < gF M2 200 3 := by rw [f3]; exact (fcd_pos _).1
    refine ⟨cfl C (tkS T n p) (sk T n p), M2, ?_, ?_, GC.fc FC.fl, (GM.fm FM.fl).tr (GM.frm fr2), Or.inl ⟨⟨tkS T n p, sk T n p, rfl, f3, rfl, f4⟩, ⟨p, hC.fl⟩, h, g, hP.fl, hb⟩⟩
    · unfold f_P_readParameter
      rw [hx, ob_s, gd_pos ⟨hso, by decide⟩, if_pos (by omega), gdD hP hd _ _ rfl, o2, if_pos (show nI 8 = (8 : Int32) from rfl), C_refuse hC hz.1, ob_s]
    · unfold f_M_readParameter f_M_readParameter_b17
      rw [gd_pos (in_n hd (by decide)), cl_n (by omega), n2, if_pos (show (8 : Int32) ≤ nI 8 by decide), M_mustN hM hz.2.1 (Or.inl rfl), ob2_s, e2, ob_s, lt_e, lt_e]
      have n3 : gF M2 213 d = nI 8 := by rw [(fr2.1 213 d (by decide)).1]; unfold mfl; rw [rFi (by decide), rFi (by decide), n2]
      have := M_pw (M := M2) hd (Nat.le_refl 8) n3 FU 0 false (by decide) (by decide)
      rw [show b32 false = (0 : Int32) from rfl, show nI 0 = (0 : Int32) from rfl] at this
      rw [this, if_pos nz2, M_b93F nz nz1]
  · have hm : m < 8 := by omega
    obtain ⟨C1, e1, c1, f1⟩ := C_next hC
    have P1 : PL C1 h g := hP.cg (fun x => (f1.1 3 x (by decide)).2.2) (fun x => (f1.1 5 x (by decide)).2.2) f1.2.2.2
    have z17 : gF C1 0 7 = 0 := (f1.1 0 7 (by decide)).1.trans hz.1
    have z18 : gF C1 0 8 = -1 := (f1.1 0 8 (by decide)).1.trans hz.2.2.1
    have o12 : gF C1 (6 + 3 * d) 2 = nI m := (f1.1 _ _ (by omega)).1.trans o2
    have eC := C_tw c1 P1 hd hm8 o12 FU 0 false (Nat.zero_le _) (by show m - 0 < 10000; omega)
    rw [show b32 false = (0 : Int32) from rfl, show nI 0 = (0 : Int32) from rfl, if_pos z17, C_isName c1, ob_s] at eC
    have eC0 : f_P_readParameter FU (6 + 3 * d) C = f_P_readParameter_b38 FU FU (6 + 3 * d) 0 0 C1 := by
      unfold f_P_readParameter f_P_readParameter_b27
      have ep : f_P_pass FU 500 C = f_X_next FU C := C_passY (x := 0) hC hz.1 hs
      rw [hx, ob_s, gd_pos ⟨hso, by decide⟩, if_pos (by omega), gdD hP hd _ _ rfl, o2, if_neg (show ¬ nI m = (8 : Int32) from nI_ne (b := 8) (by omega) (by decide) h8), ep, e1, ob_s, lt_e, lt_e]
    obtain ⟨M1, e2, fr1, L1, tk⟩ := M_tok hM.lex hz.2.1
    have n12 : gF M1 213 d = nI m := (fr1.1 _ _ (by decide)).1.trans n2
    have eM := M_pw (M := M1) hd hm8 n12 FU 0 false (Nat.zero_le _) (by show m - 0 < 10000; omega)
    rw [show b32 false = (0 : Int32) from rfl, show nI 0 = (0 : Int32) from rfl] at eM
    have eM0 : f_M_readParameter FU (nI d) M = f_M_readParameter_b29 FU FU (nI d) 0 0 M1 := by
      unfold f_M_readParameter f_M_readParameter_b17
      rw [gd_pos (in_n hd (by decide)), cl_n (by omega), n2, if_neg (show ¬ (8 : Int32) ≤ nI m from fun q => by rw [show (8 : Int32) = nI 8 from rfl, nI_leI (by decide) (by omega)] at q; omega), M_mustY hM hz.2.1 (by decide) (by omega), ob2_s, e2, ob_s, lt_e, lt_e]
    rw [eC0, eM0, eC, eM]
    rcases tk with ⟨t5, f5, f6⟩ | ⟨t5, T1, z3, z4⟩
    · rw [mwF_no (by omega), if_pos rfl, if_pos (by rw [f5]; exact (fcd_pos 5).1)]
      exact ⟨_, M1, C_b110 c1 z17, M_b93F (by rw [f5]; exact (fcd_pos 5).2.2) (by rw [f5]; exact (fcd_pos 5).2.1), (GC.frx f1).tr (GC.fc FC.fl), GM.frm fr1, Or.inl ⟨FT.mk5 t5 f5 f6, ⟨_, c1.fl⟩, h, g, P1.fl, hb⟩⟩
    · rw [if_neg (show ¬ 0 < gF M1 200 3 by rw [z3]; decide), M_own T1, ob_s]
      have bad : (∃ C' M', f_P_readParameter_b110 FU (6 + 3 * d) C1 = some C' ∧ f_M_readParameter_b97 FU (nI d) M1 = some M' ∧ GC C C' ∧ GM M M' ∧ (FTR C' M' T n ∨ ∃ p', p < p' ∧ CV C' T n p' ∧ LexM M' T n p' ∧ ZZ C' M' ∧ RD C' M' a h g pr al pt d ∧ D2 C' M' d (m + 1))) := ⟨_, _, C_b110 c1 z17, M_b98N T1 z3, (GC.frx f1).tr (GC.fc FC.fl), (GM.frm fr1).tr (GM.fm FM.fl), Or.inl ⟨FT.mk, ⟨_, c1.fl⟩, h, g, P1.fl, hb⟩⟩
      rcases mwF_01 T n (tkE T n p) with hF | hF
      · rw [hF, if_pos rfl, if_pos rfl]
        exact bad
      · have h2 := own2 hF
        simp only [hF, if_neg (show ¬ (1 : Int32) = 0 by decide)]
        have D1' := (hD.frx f1).frm fr1
        have ea : anyB (fun i => decide (tkS T n (tkE T n p) = 2 ∧ gL C1 (6 + 3 * d + 1) i = gL C1 1 5)) (m - 0) 0 = anyB (fun i => decide (gL M1 217 (8 * d + i) = gL M1 200 8)) (m - 0) 0 := anyB_cg _ _ (fun i _ hi => by
          have w := (D1'.2.2.2.2.2.2 i (by omega)).1
          rw [w, c1.2.2.2.2.2.2.2.1 h2, T1.2.2.2.2.2.2.2.1 h2]
          exact decide_eq_decide.mpr ⟨fun q => q.2, fun q => ⟨h2, q⟩⟩)
        rw [ea]
        by_cases q : b32 (false || anyB (fun i => decide (gL M1 217 (8 * d + i) = gL M1 200 8)) (m - 0) 0) = 0
        · rw [if_pos q, if_pos q]
          obtain ⟨C', M', x1, x2, x3, x4, x5⟩ := PARAM2 c1 T1 L1 h2 ⟨z17, z3, z18, z4.trans hz.2.2.2⟩ ((hR.frx f1).frm fr1) hd hm D1'
          refine ⟨C', M', x1, x2, (GC.frx f1).tr x3, (GM.frm fr1).tr x4, ?_⟩
          rcases x5 with F | ⟨p', y1, y2⟩
          · exact Or.inl F
          · exact Or.inr ⟨p', by omega, y2⟩
        · rw [if_neg q, if_neg q]
          exact bad
